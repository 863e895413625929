/-! java/util/AbstractCollection -/
set_option maxRecDepth 100000
def RJ0 : String := "java/util/AbstractCollection"
abbrev cJ0_init : ByteArray := prog_47_method_1_code
def yJ0_init : MethodName := ⟨RJ0, "<init>", "()V"⟩
theorem dJ0_init_0 : decode cJ0_init 0 = .ok (.aload_n 0, 1) := by decide +kernel
theorem dJ0_init_1 : decode cJ0_init 1 = .ok (.invokespecial 1, 3) := by decide +kernel
theorem dJ0_init_4 : decode cJ0_init 4 = .ok (.return_, 1) := by decide +kernel
abbrev cJ0_isEmpty : ByteArray := prog_47_method_4_code
def yJ0_isEmpty : MethodName := ⟨RJ0, "isEmpty", "()Z"⟩
def dkwJ0_isEmpty_0 : List UInt8 := [42, 182, 0, 7, 154, 0, 7, 4, 167, 0, 4, 3, 172]
abbrev dktJ0_isEmpty_0 : List UInt8 := dkwJ0_isEmpty_0 ++ []
theorem dksJ0_isEmpty_0 : cJ0_isEmpty.data.toList.drop 0 = dktJ0_isEmpty_0 := by decide +kernel
theorem dJ0_isEmpty_0 : decode cJ0_isEmpty 0 = .ok (.aload_n 0, 1) := dk_42 (dk_at dksJ0_isEmpty_0 0 rfl rfl)
theorem dJ0_isEmpty_1 : decode cJ0_isEmpty 1 = .ok (.invokevirtual 7, 3) := dk_182 0 7 (dk_at dksJ0_isEmpty_0 1 rfl rfl)
theorem dJ0_isEmpty_4 : decode cJ0_isEmpty 4 = .ok (.ifCond .ne 7, 3) := dk_154 0 7 (dk_at dksJ0_isEmpty_0 4 rfl rfl)
theorem dJ0_isEmpty_7 : decode cJ0_isEmpty 7 = .ok (.iconst 1, 1) := dk_4 (dk_at dksJ0_isEmpty_0 7 rfl rfl)
theorem dJ0_isEmpty_8 : decode cJ0_isEmpty 8 = .ok (.goto 4, 3) := dk_167 0 4 (dk_at dksJ0_isEmpty_0 8 rfl rfl)
theorem dJ0_isEmpty_11 : decode cJ0_isEmpty 11 = .ok (.iconst 0, 1) := dk_3 (dk_at dksJ0_isEmpty_0 11 rfl rfl)
theorem dJ0_isEmpty_12 : decode cJ0_isEmpty 12 = .ok (.ireturn, 1) := dk_172 (dk_at dksJ0_isEmpty_0 12 rfl rfl)
theorem q131 : (Jvm.Cond.initialized "java/util/AbstractCollection") ∈ lw_all := lw_g (lw_at lw_m1 3 rfl) rfl
theorem q199 : (Jvm.Cond.instanceMethod ({ cls := "java/util/AbstractCollection", name := "<init>", desc := "()V" } : Jvm.MethodName)) ∈ lw_all := lw_g (lw_at lw_m1 71 rfl) rfl
theorem q200 : (Jvm.Cond.code ({ cls := "java/util/AbstractCollection", name := "<init>", desc := "()V" } : Jvm.MethodName) prog_47_method_1_code (1 : Nat) (Option.none : Option Jvm.ClassFile.FieldType)) ∈ lw_all := lw_g (lw_at lw_m1 72 rfl) rfl
theorem q201 : (Jvm.Cond.methodLink "java/util/AbstractCollection" (1 : Nat) ({ cls := "java/lang/Object", name := "<init>", desc := "()V" } : Jvm.MethodName)) ∈ lw_all := lw_g (lw_at lw_m1 73 rfl) rfl
theorem q1765 : (Jvm.Cond.declares ({ cls := "java/util/AbstractCollection", name := "isEmpty", desc := "()Z" } : Jvm.MethodName)) ∈ lw_tbl := lw_at lw_m7 197 rfl
theorem q1767 : (Jvm.Cond.instanceMethod ({ cls := "java/util/AbstractCollection", name := "isEmpty", desc := "()Z" } : Jvm.MethodName)) ∈ lw_all := lw_g (lw_at lw_m7 199 rfl) rfl
theorem q1768 : (Jvm.Cond.code ({ cls := "java/util/AbstractCollection", name := "isEmpty", desc := "()Z" } : Jvm.MethodName) prog_47_method_4_code (1 : Nat) (Option.some Jvm.ClassFile.FieldType.boolean)) ∈ lw_all := lw_g (lw_at lw_m7 200 rfl) rfl
theorem q1769 : (Jvm.Cond.methodLink "java/util/AbstractCollection" (7 : Nat) ({ cls := "java/util/AbstractCollection", name := "size", desc := "()I" } : Jvm.MethodName)) ∈ lw_all := lw_g (lw_at lw_m7 201 rfl) rfl
theorem q1770 : (Jvm.Cond.declares ({ cls := "java/util/AbstractCollection", name := "size", desc := "()I" } : Jvm.MethodName)) ∈ lw_tbl := lw_at lw_m7 202 rfl
theorem q1771 : (Jvm.Cond.sameMethod "java/util/AbstractCollection" "java/util/AbstractCollection" "size" "()I") ∈ lw_all := lw_g (lw_at lw_m7 203 rfl) rfl
/-! java/util/AbstractList -/
set_option maxRecDepth 100000
def RJ1 : String := "java/util/AbstractList"
abbrev cJ1_init : ByteArray := prog_48_method_1_code
def yJ1_init : MethodName := ⟨RJ1, "<init>", "()V"⟩
def dkwJ1_init_0 : List UInt8 := [42, 183, 0, 1, 42, 3, 181, 0, 7, 177]
abbrev dktJ1_init_0 : List UInt8 := dkwJ1_init_0 ++ []
theorem dksJ1_init_0 : cJ1_init.data.toList.drop 0 = dktJ1_init_0 := by decide +kernel
theorem dJ1_init_0 : decode cJ1_init 0 = .ok (.aload_n 0, 1) := dk_42 (dk_at dksJ1_init_0 0 rfl rfl)
theorem dJ1_init_1 : decode cJ1_init 1 = .ok (.invokespecial 1, 3) := dk_183 0 1 (dk_at dksJ1_init_0 1 rfl rfl)
theorem dJ1_init_4 : decode cJ1_init 4 = .ok (.aload_n 0, 1) := dk_42 (dk_at dksJ1_init_0 4 rfl rfl)
theorem dJ1_init_5 : decode cJ1_init 5 = .ok (.iconst 0, 1) := dk_3 (dk_at dksJ1_init_0 5 rfl rfl)
theorem dJ1_init_6 : decode cJ1_init 6 = .ok (.putfield 7, 3) := dk_181 0 7 (dk_at dksJ1_init_0 6 rfl rfl)
theorem dJ1_init_9 : decode cJ1_init 9 = .ok (.return_, 1) := dk_177 (dk_at dksJ1_init_0 9 rfl rfl)
theorem q132 : (Jvm.Cond.initialized "java/util/AbstractList") ∈ lw_all := lw_g (lw_at lw_m1 4 rfl) rfl
theorem q196 : (Jvm.Cond.instanceMethod ({ cls := "java/util/AbstractList", name := "<init>", desc := "()V" } : Jvm.MethodName)) ∈ lw_all := lw_g (lw_at lw_m1 68 rfl) rfl
theorem q197 : (Jvm.Cond.code ({ cls := "java/util/AbstractList", name := "<init>", desc := "()V" } : Jvm.MethodName) prog_48_method_1_code (1 : Nat) (Option.none : Option Jvm.ClassFile.FieldType)) ∈ lw_all := lw_g (lw_at lw_m1 69 rfl) rfl
theorem q198 : (Jvm.Cond.methodLink "java/util/AbstractList" (1 : Nat) ({ cls := "java/util/AbstractCollection", name := "<init>", desc := "()V" } : Jvm.MethodName)) ∈ lw_all := lw_g (lw_at lw_m1 70 rfl) rfl
theorem q526 : (Jvm.Cond.fieldLink "java/util/AbstractList" (7 : Nat) "java/util/AbstractList" "modCount" "I") ∈ lw_all := lw_g (lw_at lw_m2 158 rfl) rfl
theorem q536 : (Jvm.Cond.soleField "java/util/AbstractList" "modCount") ∈ lw_all := lw_g (lw_at lw_m2 168 rfl) rfl
/-! java/util/ArrayList -/
set_option maxRecDepth 100000
def RJ2 : String := "java/util/ArrayList"
def TJ2 : u_T := fun k => match k with
  | 0 => ("java/util/AbstractList", "modCount", "I", false)
  | 1 => ("java/util/ArrayList", "elementData", "[Ljava/lang/Object;", false)
  | _ => ("java/util/ArrayList", "size", "I", false)
def tyJ2 : Nat → FieldType := fun k => match k with
  | 0 => .int
  | 1 => .array (.object "java/lang/Object")
  | _ => .int
abbrev wsJ20 : List Cond := u_ws RJ2 TJ2 3
theorem nmJ2 : ∀ a, a < 3 → ∀ b, b < 3 → a ≠ b → (TJ2 a).2.1 ≠ (TJ2 b).2.1 := by decide +kernel
theorem tyJ2_ok : ∀ k, k < 3 → parseFieldDescriptor (TJ2 k).2.2.1 = some (tyJ2 k) := by decide +kernel
abbrev cJ2_init : ByteArray := prog_50_method_1_code
def yJ2_init : MethodName := ⟨RJ2, "<init>", "(I)V"⟩
def dkwJ2_init_2 : List UInt8 := [182, 0, 25, 27, 182, 0, 29, 182, 0, 32, 183, 0, 36, 191, 177]
abbrev dktJ2_init_2 : List UInt8 := dkwJ2_init_2 ++ []
def dkwJ2_init_1 : List UInt8 := [178, 0, 15, 181, 0, 9, 167, 0, 30, 187, 0, 18, 89, 187, 0, 20, 89, 183, 0, 22, 18, 23]
abbrev dktJ2_init_1 : List UInt8 := dkwJ2_init_1 ++ dktJ2_init_2
def dkwJ2_init_0 : List UInt8 := [42, 183, 0, 1, 27, 158, 0, 14, 42, 27, 189, 0, 7, 181, 0, 9, 167, 0, 44, 27, 154, 0, 13, 42]
abbrev dktJ2_init_0 : List UInt8 := dkwJ2_init_0 ++ dktJ2_init_1
theorem dksJ2_init_0 : cJ2_init.data.toList.drop 0 = dktJ2_init_0 := by decide +kernel
theorem dksJ2_init_1 : cJ2_init.data.toList.drop 24 = dktJ2_init_1 := dk_seg dksJ2_init_0 24 rfl rfl
theorem dksJ2_init_2 : cJ2_init.data.toList.drop 46 = dktJ2_init_2 := dk_seg dksJ2_init_1 22 rfl rfl
theorem dJ2_init_0 : decode cJ2_init 0 = .ok (.aload_n 0, 1) := dk_42 (dk_at dksJ2_init_0 0 rfl rfl)
theorem dJ2_init_1 : decode cJ2_init 1 = .ok (.invokespecial 1, 3) := dk_183 0 1 (dk_at dksJ2_init_0 1 rfl rfl)
theorem dJ2_init_4 : decode cJ2_init 4 = .ok (.iload_n 1, 1) := dk_27 (dk_at dksJ2_init_0 4 rfl rfl)
theorem dJ2_init_5 : decode cJ2_init 5 = .ok (.ifCond .le 14, 3) := dk_158 0 14 (dk_at dksJ2_init_0 5 rfl rfl)
theorem dJ2_init_8 : decode cJ2_init 8 = .ok (.aload_n 0, 1) := dk_42 (dk_at dksJ2_init_0 8 rfl rfl)
theorem dJ2_init_9 : decode cJ2_init 9 = .ok (.iload_n 1, 1) := dk_27 (dk_at dksJ2_init_0 9 rfl rfl)
theorem dJ2_init_10 : decode cJ2_init 10 = .ok (.anewarray 7, 3) := dk_189 0 7 (dk_at dksJ2_init_0 10 rfl rfl)
theorem dJ2_init_13 : decode cJ2_init 13 = .ok (.putfield 9, 3) := dk_181 0 9 (dk_at dksJ2_init_0 13 rfl rfl)
theorem dJ2_init_16 : decode cJ2_init 16 = .ok (.goto 44, 3) := dk_167 0 44 (dk_at dksJ2_init_0 16 rfl rfl)
theorem dJ2_init_19 : decode cJ2_init 19 = .ok (.iload_n 1, 1) := dk_27 (dk_at dksJ2_init_0 19 rfl rfl)
theorem dJ2_init_20 : decode cJ2_init 20 = .ok (.ifCond .ne 13, 3) := dk_154 0 13 (dk_at dksJ2_init_0 20 rfl rfl)
theorem dJ2_init_23 : decode cJ2_init 23 = .ok (.aload_n 0, 1) := dk_42 (dk_at dksJ2_init_0 23 rfl rfl)
theorem dJ2_init_24 : decode cJ2_init 24 = .ok (.getstatic 15, 3) := dk_178 0 15 (dk_at dksJ2_init_1 0 rfl rfl)
theorem dJ2_init_27 : decode cJ2_init 27 = .ok (.putfield 9, 3) := dk_181 0 9 (dk_at dksJ2_init_1 3 rfl rfl)
theorem dJ2_init_30 : decode cJ2_init 30 = .ok (.goto 30, 3) := dk_167 0 30 (dk_at dksJ2_init_1 6 rfl rfl)
theorem dJ2_init_33 : decode cJ2_init 33 = .ok (.new 18, 3) := dk_187 0 18 (dk_at dksJ2_init_1 9 rfl rfl)
theorem dJ2_init_36 : decode cJ2_init 36 = .ok (.dup, 1) := dk_89 (dk_at dksJ2_init_1 12 rfl rfl)
theorem dJ2_init_37 : decode cJ2_init 37 = .ok (.new 20, 3) := dk_187 0 20 (dk_at dksJ2_init_1 13 rfl rfl)
theorem dJ2_init_40 : decode cJ2_init 40 = .ok (.dup, 1) := dk_89 (dk_at dksJ2_init_1 16 rfl rfl)
theorem dJ2_init_41 : decode cJ2_init 41 = .ok (.invokespecial 22, 3) := dk_183 0 22 (dk_at dksJ2_init_1 17 rfl rfl)
theorem dJ2_init_44 : decode cJ2_init 44 = .ok (.ldc 23, 2) := dk_18 23 (dk_at dksJ2_init_1 20 rfl rfl)
theorem dJ2_init_46 : decode cJ2_init 46 = .ok (.invokevirtual 25, 3) := dk_182 0 25 (dk_at dksJ2_init_2 0 rfl rfl)
theorem dJ2_init_49 : decode cJ2_init 49 = .ok (.iload_n 1, 1) := dk_27 (dk_at dksJ2_init_2 3 rfl rfl)
theorem dJ2_init_50 : decode cJ2_init 50 = .ok (.invokevirtual 29, 3) := dk_182 0 29 (dk_at dksJ2_init_2 4 rfl rfl)
theorem dJ2_init_53 : decode cJ2_init 53 = .ok (.invokevirtual 32, 3) := dk_182 0 32 (dk_at dksJ2_init_2 7 rfl rfl)
theorem dJ2_init_56 : decode cJ2_init 56 = .ok (.invokespecial 36, 3) := dk_183 0 36 (dk_at dksJ2_init_2 10 rfl rfl)
theorem dJ2_init_59 : decode cJ2_init 59 = .ok (.athrow, 1) := dk_191 (dk_at dksJ2_init_2 13 rfl rfl)
theorem dJ2_init_60 : decode cJ2_init 60 = .ok (.return_, 1) := dk_177 (dk_at dksJ2_init_2 14 rfl rfl)
abbrev cJ2_size : ByteArray := prog_50_method_8_code
def yJ2_size : MethodName := ⟨RJ2, "size", "()I"⟩
theorem dJ2_size_0 : decode cJ2_size 0 = .ok (.aload_n 0, 1) := by decide +kernel
theorem dJ2_size_1 : decode cJ2_size 1 = .ok (.getfield 48, 3) := by decide +kernel
theorem dJ2_size_4 : decode cJ2_size 4 = .ok (.ireturn, 1) := by decide +kernel
abbrev cJ2_get : ByteArray := prog_50_method_20_code
def yJ2_get : MethodName := ⟨RJ2, "get", "(I)Ljava/lang/Object;"⟩
def dkwJ2_get_0 : List UInt8 := [27, 42, 180, 0, 48, 184, 0, 118, 87, 42, 27, 182, 0, 123, 176]
abbrev dktJ2_get_0 : List UInt8 := dkwJ2_get_0 ++ []
theorem dksJ2_get_0 : cJ2_get.data.toList.drop 0 = dktJ2_get_0 := by decide +kernel
theorem dJ2_get_0 : decode cJ2_get 0 = .ok (.iload_n 1, 1) := dk_27 (dk_at dksJ2_get_0 0 rfl rfl)
theorem dJ2_get_1 : decode cJ2_get 1 = .ok (.aload_n 0, 1) := dk_42 (dk_at dksJ2_get_0 1 rfl rfl)
theorem dJ2_get_2 : decode cJ2_get 2 = .ok (.getfield 48, 3) := dk_180 0 48 (dk_at dksJ2_get_0 2 rfl rfl)
theorem dJ2_get_5 : decode cJ2_get 5 = .ok (.invokestatic 118, 3) := dk_184 0 118 (dk_at dksJ2_get_0 5 rfl rfl)
theorem dJ2_get_8 : decode cJ2_get 8 = .ok (.pop, 1) := dk_87 (dk_at dksJ2_get_0 8 rfl rfl)
theorem dJ2_get_9 : decode cJ2_get 9 = .ok (.aload_n 0, 1) := dk_42 (dk_at dksJ2_get_0 9 rfl rfl)
theorem dJ2_get_10 : decode cJ2_get 10 = .ok (.iload_n 1, 1) := dk_27 (dk_at dksJ2_get_0 10 rfl rfl)
theorem dJ2_get_11 : decode cJ2_get 11 = .ok (.invokevirtual 123, 3) := dk_182 0 123 (dk_at dksJ2_get_0 11 rfl rfl)
theorem dJ2_get_14 : decode cJ2_get 14 = .ok (.areturn, 1) := dk_176 (dk_at dksJ2_get_0 14 rfl rfl)
abbrev cJ2_elementData : ByteArray := prog_50_method_18_code
def yJ2_elementData : MethodName := ⟨RJ2, "elementData", "(I)Ljava/lang/Object;"⟩
def dkwJ2_elementData_0 : List UInt8 := [42, 180, 0, 9, 27, 50, 176]
abbrev dktJ2_elementData_0 : List UInt8 := dkwJ2_elementData_0 ++ []
theorem dksJ2_elementData_0 : cJ2_elementData.data.toList.drop 0 = dktJ2_elementData_0 := by decide +kernel
theorem dJ2_elementData_0 : decode cJ2_elementData 0 = .ok (.aload_n 0, 1) := dk_42 (dk_at dksJ2_elementData_0 0 rfl rfl)
theorem dJ2_elementData_1 : decode cJ2_elementData 1 = .ok (.getfield 9, 3) := dk_180 0 9 (dk_at dksJ2_elementData_0 1 rfl rfl)
theorem dJ2_elementData_4 : decode cJ2_elementData 4 = .ok (.iload_n 1, 1) := dk_27 (dk_at dksJ2_elementData_0 4 rfl rfl)
theorem dJ2_elementData_5 : decode cJ2_elementData 5 = .ok (.aaload, 1) := dk_50 (dk_at dksJ2_elementData_0 5 rfl rfl)
theorem dJ2_elementData_6 : decode cJ2_elementData 6 = .ok (.areturn, 1) := dk_176 (dk_at dksJ2_elementData_0 6 rfl rfl)
abbrev cJ2_add : ByteArray := prog_50_method_25_code
def yJ2_add : MethodName := ⟨RJ2, "add", "(Ljava/lang/Object;)Z"⟩
def dkwJ2_add_1 : List UInt8 := [172]
abbrev dktJ2_add_1 : List UInt8 := dkwJ2_add_1 ++ []
def dkwJ2_add_0 : List UInt8 := [42, 89, 180, 0, 63, 4, 96, 181, 0, 63, 42, 43, 42, 180, 0, 9, 42, 180, 0, 48, 182, 0, 131, 4]
abbrev dktJ2_add_0 : List UInt8 := dkwJ2_add_0 ++ dktJ2_add_1
theorem dksJ2_add_0 : cJ2_add.data.toList.drop 0 = dktJ2_add_0 := by decide +kernel
theorem dksJ2_add_1 : cJ2_add.data.toList.drop 24 = dktJ2_add_1 := dk_seg dksJ2_add_0 24 rfl rfl
theorem dJ2_add_0 : decode cJ2_add 0 = .ok (.aload_n 0, 1) := dk_42 (dk_at dksJ2_add_0 0 rfl rfl)
theorem dJ2_add_1 : decode cJ2_add 1 = .ok (.dup, 1) := dk_89 (dk_at dksJ2_add_0 1 rfl rfl)
theorem dJ2_add_2 : decode cJ2_add 2 = .ok (.getfield 63, 3) := dk_180 0 63 (dk_at dksJ2_add_0 2 rfl rfl)
theorem dJ2_add_5 : decode cJ2_add 5 = .ok (.iconst 1, 1) := dk_4 (dk_at dksJ2_add_0 5 rfl rfl)
theorem dJ2_add_6 : decode cJ2_add 6 = .ok (.iadd, 1) := dk_96 (dk_at dksJ2_add_0 6 rfl rfl)
theorem dJ2_add_7 : decode cJ2_add 7 = .ok (.putfield 63, 3) := dk_181 0 63 (dk_at dksJ2_add_0 7 rfl rfl)
theorem dJ2_add_10 : decode cJ2_add 10 = .ok (.aload_n 0, 1) := dk_42 (dk_at dksJ2_add_0 10 rfl rfl)
theorem dJ2_add_11 : decode cJ2_add 11 = .ok (.aload_n 1, 1) := dk_43 (dk_at dksJ2_add_0 11 rfl rfl)
theorem dJ2_add_12 : decode cJ2_add 12 = .ok (.aload_n 0, 1) := dk_42 (dk_at dksJ2_add_0 12 rfl rfl)
theorem dJ2_add_13 : decode cJ2_add 13 = .ok (.getfield 9, 3) := dk_180 0 9 (dk_at dksJ2_add_0 13 rfl rfl)
theorem dJ2_add_16 : decode cJ2_add 16 = .ok (.aload_n 0, 1) := dk_42 (dk_at dksJ2_add_0 16 rfl rfl)
theorem dJ2_add_17 : decode cJ2_add 17 = .ok (.getfield 48, 3) := dk_180 0 48 (dk_at dksJ2_add_0 17 rfl rfl)
theorem dJ2_add_20 : decode cJ2_add 20 = .ok (.invokevirtual 131, 3) := dk_182 0 131 (dk_at dksJ2_add_0 20 rfl rfl)
theorem dJ2_add_23 : decode cJ2_add 23 = .ok (.iconst 1, 1) := dk_4 (dk_at dksJ2_add_0 23 rfl rfl)
theorem dJ2_add_24 : decode cJ2_add 24 = .ok (.ireturn, 1) := dk_172 (dk_at dksJ2_add_1 0 rfl rfl)
abbrev cJ2_add_2 : ByteArray := prog_50_method_24_code
def yJ2_add_2 : MethodName := ⟨RJ2, "add", "(Ljava/lang/Object;[Ljava/lang/Object;I)V"⟩
def dkwJ2_add_2_0 : List UInt8 := [29, 44, 190, 160, 0, 8, 42, 182, 0, 129, 77, 44, 29, 43, 83, 42, 29, 4, 96, 181, 0, 48, 177]
abbrev dktJ2_add_2_0 : List UInt8 := dkwJ2_add_2_0 ++ []
theorem dksJ2_add_2_0 : cJ2_add_2.data.toList.drop 0 = dktJ2_add_2_0 := by decide +kernel
theorem dJ2_add_2_0 : decode cJ2_add_2 0 = .ok (.iload_n 3, 1) := dk_29 (dk_at dksJ2_add_2_0 0 rfl rfl)
theorem dJ2_add_2_1 : decode cJ2_add_2 1 = .ok (.aload_n 2, 1) := dk_44 (dk_at dksJ2_add_2_0 1 rfl rfl)
theorem dJ2_add_2_2 : decode cJ2_add_2 2 = .ok (.arraylength, 1) := dk_190 (dk_at dksJ2_add_2_0 2 rfl rfl)
theorem dJ2_add_2_3 : decode cJ2_add_2 3 = .ok (.if_icmp .ne 8, 3) := dk_160 0 8 (dk_at dksJ2_add_2_0 3 rfl rfl)
theorem dJ2_add_2_6 : decode cJ2_add_2 6 = .ok (.aload_n 0, 1) := dk_42 (dk_at dksJ2_add_2_0 6 rfl rfl)
theorem dJ2_add_2_7 : decode cJ2_add_2 7 = .ok (.invokevirtual 129, 3) := dk_182 0 129 (dk_at dksJ2_add_2_0 7 rfl rfl)
theorem dJ2_add_2_10 : decode cJ2_add_2 10 = .ok (.astore_n 2, 1) := dk_77 (dk_at dksJ2_add_2_0 10 rfl rfl)
theorem dJ2_add_2_11 : decode cJ2_add_2 11 = .ok (.aload_n 2, 1) := dk_44 (dk_at dksJ2_add_2_0 11 rfl rfl)
theorem dJ2_add_2_12 : decode cJ2_add_2 12 = .ok (.iload_n 3, 1) := dk_29 (dk_at dksJ2_add_2_0 12 rfl rfl)
theorem dJ2_add_2_13 : decode cJ2_add_2 13 = .ok (.aload_n 1, 1) := dk_43 (dk_at dksJ2_add_2_0 13 rfl rfl)
theorem dJ2_add_2_14 : decode cJ2_add_2 14 = .ok (.aastore, 1) := dk_83 (dk_at dksJ2_add_2_0 14 rfl rfl)
theorem dJ2_add_2_15 : decode cJ2_add_2 15 = .ok (.aload_n 0, 1) := dk_42 (dk_at dksJ2_add_2_0 15 rfl rfl)
theorem dJ2_add_2_16 : decode cJ2_add_2 16 = .ok (.iload_n 3, 1) := dk_29 (dk_at dksJ2_add_2_0 16 rfl rfl)
theorem dJ2_add_2_17 : decode cJ2_add_2 17 = .ok (.iconst 1, 1) := dk_4 (dk_at dksJ2_add_2_0 17 rfl rfl)
theorem dJ2_add_2_18 : decode cJ2_add_2 18 = .ok (.iadd, 1) := dk_96 (dk_at dksJ2_add_2_0 18 rfl rfl)
theorem dJ2_add_2_19 : decode cJ2_add_2 19 = .ok (.putfield 48, 3) := dk_181 0 48 (dk_at dksJ2_add_2_0 19 rfl rfl)
theorem dJ2_add_2_22 : decode cJ2_add_2 22 = .ok (.return_, 1) := dk_177 (dk_at dksJ2_add_2_0 22 rfl rfl)
abbrev cJ2_grow : ByteArray := prog_50_method_7_code
def yJ2_grow : MethodName := ⟨RJ2, "grow", "()[Ljava/lang/Object;"⟩
def dkwJ2_grow_0 : List UInt8 := [42, 42, 180, 0, 48, 4, 96, 182, 0, 69, 176]
abbrev dktJ2_grow_0 : List UInt8 := dkwJ2_grow_0 ++ []
theorem dksJ2_grow_0 : cJ2_grow.data.toList.drop 0 = dktJ2_grow_0 := by decide +kernel
theorem dJ2_grow_0 : decode cJ2_grow 0 = .ok (.aload_n 0, 1) := dk_42 (dk_at dksJ2_grow_0 0 rfl rfl)
theorem dJ2_grow_1 : decode cJ2_grow 1 = .ok (.aload_n 0, 1) := dk_42 (dk_at dksJ2_grow_0 1 rfl rfl)
theorem dJ2_grow_2 : decode cJ2_grow 2 = .ok (.getfield 48, 3) := dk_180 0 48 (dk_at dksJ2_grow_0 2 rfl rfl)
theorem dJ2_grow_5 : decode cJ2_grow 5 = .ok (.iconst 1, 1) := dk_4 (dk_at dksJ2_grow_0 5 rfl rfl)
theorem dJ2_grow_6 : decode cJ2_grow 6 = .ok (.iadd, 1) := dk_96 (dk_at dksJ2_grow_0 6 rfl rfl)
theorem dJ2_grow_7 : decode cJ2_grow 7 = .ok (.invokevirtual 69, 3) := dk_182 0 69 (dk_at dksJ2_grow_0 7 rfl rfl)
theorem dJ2_grow_10 : decode cJ2_grow 10 = .ok (.areturn, 1) := dk_176 (dk_at dksJ2_grow_0 10 rfl rfl)
abbrev cJ2_grow_2 : ByteArray := prog_50_method_6_code
def yJ2_grow_2 : MethodName := ⟨RJ2, "grow", "(I)[Ljava/lang/Object;"⟩
def dkwJ2_grow_2_2 : List UInt8 := [27, 184, 0, 79, 189, 0, 7, 90, 181, 0, 9, 176]
abbrev dktJ2_grow_2_2 : List UInt8 := dkwJ2_grow_2_2 ++ []
def dkwJ2_grow_2_1 : List UInt8 := [28, 4, 122, 184, 0, 73, 62, 42, 42, 180, 0, 9, 29, 184, 0, 66, 90, 181, 0, 9, 176, 42, 16, 10]
abbrev dktJ2_grow_2_1 : List UInt8 := dkwJ2_grow_2_1 ++ dktJ2_grow_2_2
def dkwJ2_grow_2_0 : List UInt8 := [42, 180, 0, 9, 190, 61, 28, 157, 0, 13, 42, 180, 0, 9, 178, 0, 39, 165, 0, 28, 28, 27, 28, 100]
abbrev dktJ2_grow_2_0 : List UInt8 := dkwJ2_grow_2_0 ++ dktJ2_grow_2_1
theorem dksJ2_grow_2_0 : cJ2_grow_2.data.toList.drop 0 = dktJ2_grow_2_0 := by decide +kernel
theorem dksJ2_grow_2_1 : cJ2_grow_2.data.toList.drop 24 = dktJ2_grow_2_1 := dk_seg dksJ2_grow_2_0 24 rfl rfl
theorem dksJ2_grow_2_2 : cJ2_grow_2.data.toList.drop 48 = dktJ2_grow_2_2 := dk_seg dksJ2_grow_2_1 24 rfl rfl
theorem dJ2_grow_2_0 : decode cJ2_grow_2 0 = .ok (.aload_n 0, 1) := dk_42 (dk_at dksJ2_grow_2_0 0 rfl rfl)
theorem dJ2_grow_2_1 : decode cJ2_grow_2 1 = .ok (.getfield 9, 3) := dk_180 0 9 (dk_at dksJ2_grow_2_0 1 rfl rfl)
theorem dJ2_grow_2_4 : decode cJ2_grow_2 4 = .ok (.arraylength, 1) := dk_190 (dk_at dksJ2_grow_2_0 4 rfl rfl)
theorem dJ2_grow_2_5 : decode cJ2_grow_2 5 = .ok (.istore_n 2, 1) := dk_61 (dk_at dksJ2_grow_2_0 5 rfl rfl)
theorem dJ2_grow_2_6 : decode cJ2_grow_2 6 = .ok (.iload_n 2, 1) := dk_28 (dk_at dksJ2_grow_2_0 6 rfl rfl)
theorem dJ2_grow_2_7 : decode cJ2_grow_2 7 = .ok (.ifCond .gt 13, 3) := dk_157 0 13 (dk_at dksJ2_grow_2_0 7 rfl rfl)
theorem dJ2_grow_2_10 : decode cJ2_grow_2 10 = .ok (.aload_n 0, 1) := dk_42 (dk_at dksJ2_grow_2_0 10 rfl rfl)
theorem dJ2_grow_2_11 : decode cJ2_grow_2 11 = .ok (.getfield 9, 3) := dk_180 0 9 (dk_at dksJ2_grow_2_0 11 rfl rfl)
theorem dJ2_grow_2_14 : decode cJ2_grow_2 14 = .ok (.getstatic 39, 3) := dk_178 0 39 (dk_at dksJ2_grow_2_0 14 rfl rfl)
theorem dJ2_grow_2_17 : decode cJ2_grow_2 17 = .ok (.if_acmp .eq 28, 3) := dk_165 0 28 (dk_at dksJ2_grow_2_0 17 rfl rfl)
theorem dJ2_grow_2_20 : decode cJ2_grow_2 20 = .ok (.iload_n 2, 1) := dk_28 (dk_at dksJ2_grow_2_0 20 rfl rfl)
theorem dJ2_grow_2_21 : decode cJ2_grow_2 21 = .ok (.iload_n 1, 1) := dk_27 (dk_at dksJ2_grow_2_0 21 rfl rfl)
theorem dJ2_grow_2_22 : decode cJ2_grow_2 22 = .ok (.iload_n 2, 1) := dk_28 (dk_at dksJ2_grow_2_0 22 rfl rfl)
theorem dJ2_grow_2_23 : decode cJ2_grow_2 23 = .ok (.isub, 1) := dk_100 (dk_at dksJ2_grow_2_0 23 rfl rfl)
theorem dJ2_grow_2_24 : decode cJ2_grow_2 24 = .ok (.iload_n 2, 1) := dk_28 (dk_at dksJ2_grow_2_1 0 rfl rfl)
theorem dJ2_grow_2_25 : decode cJ2_grow_2 25 = .ok (.iconst 1, 1) := dk_4 (dk_at dksJ2_grow_2_1 1 rfl rfl)
theorem dJ2_grow_2_26 : decode cJ2_grow_2 26 = .ok (.ishr, 1) := dk_122 (dk_at dksJ2_grow_2_1 2 rfl rfl)
theorem dJ2_grow_2_27 : decode cJ2_grow_2 27 = .ok (.invokestatic 73, 3) := dk_184 0 73 (dk_at dksJ2_grow_2_1 3 rfl rfl)
theorem dJ2_grow_2_30 : decode cJ2_grow_2 30 = .ok (.istore_n 3, 1) := dk_62 (dk_at dksJ2_grow_2_1 6 rfl rfl)
theorem dJ2_grow_2_31 : decode cJ2_grow_2 31 = .ok (.aload_n 0, 1) := dk_42 (dk_at dksJ2_grow_2_1 7 rfl rfl)
theorem dJ2_grow_2_32 : decode cJ2_grow_2 32 = .ok (.aload_n 0, 1) := dk_42 (dk_at dksJ2_grow_2_1 8 rfl rfl)
theorem dJ2_grow_2_33 : decode cJ2_grow_2 33 = .ok (.getfield 9, 3) := dk_180 0 9 (dk_at dksJ2_grow_2_1 9 rfl rfl)
theorem dJ2_grow_2_36 : decode cJ2_grow_2 36 = .ok (.iload_n 3, 1) := dk_29 (dk_at dksJ2_grow_2_1 12 rfl rfl)
theorem dJ2_grow_2_37 : decode cJ2_grow_2 37 = .ok (.invokestatic 66, 3) := dk_184 0 66 (dk_at dksJ2_grow_2_1 13 rfl rfl)
theorem dJ2_grow_2_40 : decode cJ2_grow_2 40 = .ok (.dup_x1, 1) := dk_90 (dk_at dksJ2_grow_2_1 16 rfl rfl)
theorem dJ2_grow_2_41 : decode cJ2_grow_2 41 = .ok (.putfield 9, 3) := dk_181 0 9 (dk_at dksJ2_grow_2_1 17 rfl rfl)
theorem dJ2_grow_2_44 : decode cJ2_grow_2 44 = .ok (.areturn, 1) := dk_176 (dk_at dksJ2_grow_2_1 20 rfl rfl)
theorem dJ2_grow_2_45 : decode cJ2_grow_2 45 = .ok (.aload_n 0, 1) := dk_42 (dk_at dksJ2_grow_2_1 21 rfl rfl)
theorem dJ2_grow_2_46 : decode cJ2_grow_2 46 = .ok (.bipush 10, 2) := dk_16 10 (dk_at dksJ2_grow_2_1 22 rfl rfl)
theorem dJ2_grow_2_48 : decode cJ2_grow_2 48 = .ok (.iload_n 1, 1) := dk_27 (dk_at dksJ2_grow_2_2 0 rfl rfl)
theorem dJ2_grow_2_49 : decode cJ2_grow_2 49 = .ok (.invokestatic 79, 3) := dk_184 0 79 (dk_at dksJ2_grow_2_2 1 rfl rfl)
theorem dJ2_grow_2_52 : decode cJ2_grow_2 52 = .ok (.anewarray 7, 3) := dk_189 0 7 (dk_at dksJ2_grow_2_2 4 rfl rfl)
theorem dJ2_grow_2_55 : decode cJ2_grow_2 55 = .ok (.dup_x1, 1) := dk_90 (dk_at dksJ2_grow_2_2 7 rfl rfl)
theorem dJ2_grow_2_56 : decode cJ2_grow_2 56 = .ok (.putfield 9, 3) := dk_181 0 9 (dk_at dksJ2_grow_2_2 8 rfl rfl)
theorem dJ2_grow_2_59 : decode cJ2_grow_2 59 = .ok (.areturn, 1) := dk_176 (dk_at dksJ2_grow_2_2 11 rfl rfl)
theorem q133 : (Jvm.Cond.initialized "java/util/ArrayList") ∈ lw_all := lw_g (lw_at lw_m1 5 rfl) rfl
theorem q191 : (Jvm.Cond.instantiable "java/util/ArrayList" (3 : Nat)) ∈ lw_all := lw_g (lw_at lw_m1 63 rfl) rfl
theorem q193 : (Jvm.Cond.instanceMethod ({ cls := "java/util/ArrayList", name := "<init>", desc := "(I)V" } : Jvm.MethodName)) ∈ lw_all := lw_g (lw_at lw_m1 65 rfl) rfl
theorem q194 : (Jvm.Cond.code ({ cls := "java/util/ArrayList", name := "<init>", desc := "(I)V" } : Jvm.MethodName) prog_50_method_1_code (2 : Nat) (Option.none : Option Jvm.ClassFile.FieldType)) ∈ lw_all := lw_g (lw_at lw_m1 66 rfl) rfl
theorem q195 : (Jvm.Cond.methodLink "java/util/ArrayList" (1 : Nat) ({ cls := "java/util/AbstractList", name := "<init>", desc := "()V" } : Jvm.MethodName)) ∈ lw_all := lw_g (lw_at lw_m1 67 rfl) rfl
theorem q202 : (Jvm.Cond.classLink "java/util/ArrayList" (7 : Nat) "java/lang/Object") ∈ lw_all := lw_g (lw_at lw_m1 74 rfl) rfl
theorem q204 : (Jvm.Cond.fieldLink "java/util/ArrayList" (15 : Nat) "java/util/ArrayList" "EMPTY_ELEMENTDATA" "[Ljava/lang/Object;") ∈ lw_all := lw_g (lw_at lw_m1 76 rfl) rfl
theorem q205 : (Jvm.Cond.laysStatic "java/util/ArrayList" "EMPTY_ELEMENTDATA" "[Ljava/lang/Object;") ∈ lw_tbl := lw_at lw_m1 77 rfl
theorem q206 : (Jvm.Cond.classLink "java/util/ArrayList" (18 : Nat) "java/lang/IllegalArgumentException") ∈ lw_all := lw_g (lw_at lw_m1 78 rfl) rfl
theorem q250 : (Jvm.Cond.classLink "java/util/ArrayList" (20 : Nat) "java/lang/StringBuilder") ∈ lw_all := lw_g (lw_at lw_m1 122 rfl) rfl
theorem q252 : (Jvm.Cond.methodLink "java/util/ArrayList" (22 : Nat) ({ cls := "java/lang/StringBuilder", name := "<init>", desc := "()V" } : Jvm.MethodName)) ∈ lw_all := lw_g (lw_at lw_m1 124 rfl) rfl
theorem q283 : (Jvm.Cond.stringRef "java/util/ArrayList" (23 : Nat) "Illegal Capacity: ") ∈ lw_tbl := lw_at lw_m1 155 rfl
theorem q284 : (Jvm.Cond.methodLink "java/util/ArrayList" (25 : Nat) ({ cls := "java/lang/StringBuilder", name := "append", desc := "(Ljava/lang/String;)Ljava/lang/StringBuilder;" } : Jvm.MethodName)) ∈ lw_all := lw_g (lw_at lw_m1 156 rfl) rfl
theorem q404 : (Jvm.Cond.methodLink "java/util/ArrayList" (29 : Nat) ({ cls := "java/lang/StringBuilder", name := "append", desc := "(I)Ljava/lang/StringBuilder;" } : Jvm.MethodName)) ∈ lw_all := lw_g (lw_at lw_m2 36 rfl) rfl
theorem q429 : (Jvm.Cond.methodLink "java/util/ArrayList" (32 : Nat) ({ cls := "java/lang/StringBuilder", name := "toString", desc := "()Ljava/lang/String;" } : Jvm.MethodName)) ∈ lw_all := lw_g (lw_at lw_m2 61 rfl) rfl
theorem q523 : (Jvm.Cond.methodLink "java/util/ArrayList" (36 : Nat) ({ cls := "java/lang/IllegalArgumentException", name := "<init>", desc := "(Ljava/lang/String;)V" } : Jvm.MethodName)) ∈ lw_all := lw_g (lw_at lw_m2 155 rfl) rfl
theorem q524 : (Jvm.Cond.fieldLink "java/util/ArrayList" (9 : Nat) "java/util/ArrayList" "elementData" "[Ljava/lang/Object;") ∈ lw_all := lw_g (lw_at lw_m2 156 rfl) rfl
theorem q525 : (Jvm.Cond.fieldLink "java/util/ArrayList" (48 : Nat) "java/util/ArrayList" "size" "I") ∈ lw_all := lw_g (lw_at lw_m2 157 rfl) rfl
theorem q529 : (Jvm.Cond.fieldLink "java/util/ArrayList" (63 : Nat) "java/util/ArrayList" "modCount" "I") ∈ lw_all := lw_g (lw_at lw_m2 161 rfl) rfl
theorem q530 : (Jvm.Cond.sameField "java/util/ArrayList" "java/util/AbstractList" "modCount" "I") ∈ lw_all := lw_g (lw_at lw_m2 162 rfl) rfl
theorem q531 : (Jvm.Cond.lays "java/util/ArrayList" "java/util/ArrayList" "elementData" "[Ljava/lang/Object;") ∈ lw_all := lw_g (lw_at lw_m2 163 rfl) rfl
theorem q532 : (Jvm.Cond.soleField "java/util/ArrayList" "elementData") ∈ lw_all := lw_g (lw_at lw_m2 164 rfl) rfl
theorem q533 : (Jvm.Cond.lays "java/util/ArrayList" "java/util/ArrayList" "size" "I") ∈ lw_all := lw_g (lw_at lw_m2 165 rfl) rfl
theorem q534 : (Jvm.Cond.soleField "java/util/ArrayList" "size") ∈ lw_all := lw_g (lw_at lw_m2 166 rfl) rfl
theorem q535 : (Jvm.Cond.lays "java/util/ArrayList" "java/util/AbstractList" "modCount" "I") ∈ lw_all := lw_g (lw_at lw_m2 167 rfl) rfl
theorem q537 : (Jvm.Cond.superclass "java/util/ArrayList" "java/util/AbstractList") ∈ lw_all := lw_g (lw_at lw_m2 169 rfl) rfl
theorem q732 : (Jvm.Cond.castable "java/util/ArrayList" "java/util/List") ∈ lw_tbl := lw_at lw_m3 124 rfl
theorem q733 : (Jvm.Cond.selects "java/util/ArrayList" ({ cls := "java/util/List", name := "size", desc := "()I" } : Jvm.MethodName) ({ cls := "java/util/ArrayList", name := "size", desc := "()I" } : Jvm.MethodName)) ∈ lw_all := lw_g (lw_at lw_m3 125 rfl) rfl
theorem q734 : (Jvm.Cond.unhidden "java/util/ArrayList" "size" "()I") ∈ lw_tbl := lw_at lw_m3 126 rfl
theorem q735 : (Jvm.Cond.instanceMethod ({ cls := "java/util/ArrayList", name := "size", desc := "()I" } : Jvm.MethodName)) ∈ lw_all := lw_g (lw_at lw_m3 127 rfl) rfl
theorem q736 : (Jvm.Cond.publicMethod ({ cls := "java/util/ArrayList", name := "size", desc := "()I" } : Jvm.MethodName)) ∈ lw_tbl := lw_at lw_m3 128 rfl
theorem q737 : (Jvm.Cond.code ({ cls := "java/util/ArrayList", name := "size", desc := "()I" } : Jvm.MethodName) prog_50_method_8_code (1 : Nat) (Option.some Jvm.ClassFile.FieldType.int)) ∈ lw_all := lw_g (lw_at lw_m3 129 rfl) rfl
theorem q757 : (Jvm.Cond.selects "java/util/ArrayList" ({ cls := "java/util/List", name := "get", desc := "(I)Ljava/lang/Object;" } : Jvm.MethodName) ({ cls := "java/util/ArrayList", name := "get", desc := "(I)Ljava/lang/Object;" } : Jvm.MethodName)) ∈ lw_all := lw_g (lw_at lw_m3 149 rfl) rfl
theorem q758 : (Jvm.Cond.unhidden "java/util/ArrayList" "get" "(I)Ljava/lang/Object;") ∈ lw_tbl := lw_at lw_m3 150 rfl
theorem q759 : (Jvm.Cond.instanceMethod ({ cls := "java/util/ArrayList", name := "get", desc := "(I)Ljava/lang/Object;" } : Jvm.MethodName)) ∈ lw_all := lw_g (lw_at lw_m3 151 rfl) rfl
theorem q760 : (Jvm.Cond.publicMethod ({ cls := "java/util/ArrayList", name := "get", desc := "(I)Ljava/lang/Object;" } : Jvm.MethodName)) ∈ lw_tbl := lw_at lw_m3 152 rfl
theorem q761 : (Jvm.Cond.code ({ cls := "java/util/ArrayList", name := "get", desc := "(I)Ljava/lang/Object;" } : Jvm.MethodName) prog_50_method_20_code (2 : Nat) (Option.some (Jvm.ClassFile.FieldType.object "java/lang/Object"))) ∈ lw_all := lw_g (lw_at lw_m3 153 rfl) rfl
theorem q762 : (Jvm.Cond.methodLink "java/util/ArrayList" (118 : Nat) ({ cls := "java/util/Objects", name := "checkIndex", desc := "(II)I" } : Jvm.MethodName)) ∈ lw_all := lw_g (lw_at lw_m3 154 rfl) rfl
theorem q768 : (Jvm.Cond.methodLink "java/util/ArrayList" (123 : Nat) ({ cls := "java/util/ArrayList", name := "elementData", desc := "(I)Ljava/lang/Object;" } : Jvm.MethodName)) ∈ lw_all := lw_g (lw_at lw_m3 160 rfl) rfl
theorem q769 : (Jvm.Cond.instanceMethod ({ cls := "java/util/ArrayList", name := "elementData", desc := "(I)Ljava/lang/Object;" } : Jvm.MethodName)) ∈ lw_all := lw_g (lw_at lw_m3 161 rfl) rfl
theorem q770 : (Jvm.Cond.selects "java/util/ArrayList" ({ cls := "java/util/ArrayList", name := "elementData", desc := "(I)Ljava/lang/Object;" } : Jvm.MethodName) ({ cls := "java/util/ArrayList", name := "elementData", desc := "(I)Ljava/lang/Object;" } : Jvm.MethodName)) ∈ lw_all := lw_g (lw_at lw_m3 162 rfl) rfl
theorem q771 : (Jvm.Cond.code ({ cls := "java/util/ArrayList", name := "elementData", desc := "(I)Ljava/lang/Object;" } : Jvm.MethodName) prog_50_method_18_code (2 : Nat) (Option.some (Jvm.ClassFile.FieldType.object "java/lang/Object"))) ∈ lw_all := lw_g (lw_at lw_m3 163 rfl) rfl
theorem q967 : (Jvm.Cond.selects "java/util/ArrayList" ({ cls := "java/util/List", name := "add", desc := "(Ljava/lang/Object;)Z" } : Jvm.MethodName) ({ cls := "java/util/ArrayList", name := "add", desc := "(Ljava/lang/Object;)Z" } : Jvm.MethodName)) ∈ lw_all := lw_g (lw_at lw_m4 119 rfl) rfl
theorem q968 : (Jvm.Cond.unhidden "java/util/ArrayList" "add" "(Ljava/lang/Object;)Z") ∈ lw_tbl := lw_at lw_m4 120 rfl
theorem q969 : (Jvm.Cond.instanceMethod ({ cls := "java/util/ArrayList", name := "add", desc := "(Ljava/lang/Object;)Z" } : Jvm.MethodName)) ∈ lw_all := lw_g (lw_at lw_m4 121 rfl) rfl
theorem q970 : (Jvm.Cond.publicMethod ({ cls := "java/util/ArrayList", name := "add", desc := "(Ljava/lang/Object;)Z" } : Jvm.MethodName)) ∈ lw_tbl := lw_at lw_m4 122 rfl
theorem q971 : (Jvm.Cond.code ({ cls := "java/util/ArrayList", name := "add", desc := "(Ljava/lang/Object;)Z" } : Jvm.MethodName) prog_50_method_25_code (2 : Nat) (Option.some Jvm.ClassFile.FieldType.boolean)) ∈ lw_all := lw_g (lw_at lw_m4 123 rfl) rfl
theorem q972 : (Jvm.Cond.methodLink "java/util/ArrayList" (131 : Nat) ({ cls := "java/util/ArrayList", name := "add", desc := "(Ljava/lang/Object;[Ljava/lang/Object;I)V" } : Jvm.MethodName)) ∈ lw_all := lw_g (lw_at lw_m4 124 rfl) rfl
theorem q973 : (Jvm.Cond.privateMethod ({ cls := "java/util/ArrayList", name := "add", desc := "(Ljava/lang/Object;[Ljava/lang/Object;I)V" } : Jvm.MethodName)) ∈ lw_tbl := lw_at lw_m4 125 rfl
theorem q974 : (Jvm.Cond.instanceMethod ({ cls := "java/util/ArrayList", name := "add", desc := "(Ljava/lang/Object;[Ljava/lang/Object;I)V" } : Jvm.MethodName)) ∈ lw_all := lw_g (lw_at lw_m4 126 rfl) rfl
theorem q975 : (Jvm.Cond.code ({ cls := "java/util/ArrayList", name := "add", desc := "(Ljava/lang/Object;[Ljava/lang/Object;I)V" } : Jvm.MethodName) prog_50_method_24_code (4 : Nat) (Option.none : Option Jvm.ClassFile.FieldType)) ∈ lw_all := lw_g (lw_at lw_m4 127 rfl) rfl
theorem q976 : (Jvm.Cond.methodLink "java/util/ArrayList" (129 : Nat) ({ cls := "java/util/ArrayList", name := "grow", desc := "()[Ljava/lang/Object;" } : Jvm.MethodName)) ∈ lw_all := lw_g (lw_at lw_m4 128 rfl) rfl
theorem q977 : (Jvm.Cond.privateMethod ({ cls := "java/util/ArrayList", name := "grow", desc := "()[Ljava/lang/Object;" } : Jvm.MethodName)) ∈ lw_tbl := lw_at lw_m4 129 rfl
theorem q978 : (Jvm.Cond.instanceMethod ({ cls := "java/util/ArrayList", name := "grow", desc := "()[Ljava/lang/Object;" } : Jvm.MethodName)) ∈ lw_all := lw_g (lw_at lw_m4 130 rfl) rfl
theorem q979 : (Jvm.Cond.code ({ cls := "java/util/ArrayList", name := "grow", desc := "()[Ljava/lang/Object;" } : Jvm.MethodName) prog_50_method_7_code (1 : Nat) (Option.some (Jvm.ClassFile.FieldType.array (Jvm.ClassFile.FieldType.object "java/lang/Object")))) ∈ lw_all := lw_g (lw_at lw_m4 131 rfl) rfl
theorem q980 : (Jvm.Cond.methodLink "java/util/ArrayList" (69 : Nat) ({ cls := "java/util/ArrayList", name := "grow", desc := "(I)[Ljava/lang/Object;" } : Jvm.MethodName)) ∈ lw_all := lw_g (lw_at lw_m4 132 rfl) rfl
theorem q981 : (Jvm.Cond.privateMethod ({ cls := "java/util/ArrayList", name := "grow", desc := "(I)[Ljava/lang/Object;" } : Jvm.MethodName)) ∈ lw_tbl := lw_at lw_m4 133 rfl
theorem q982 : (Jvm.Cond.instanceMethod ({ cls := "java/util/ArrayList", name := "grow", desc := "(I)[Ljava/lang/Object;" } : Jvm.MethodName)) ∈ lw_all := lw_g (lw_at lw_m4 134 rfl) rfl
theorem q983 : (Jvm.Cond.code ({ cls := "java/util/ArrayList", name := "grow", desc := "(I)[Ljava/lang/Object;" } : Jvm.MethodName) prog_50_method_6_code (4 : Nat) (Option.some (Jvm.ClassFile.FieldType.array (Jvm.ClassFile.FieldType.object "java/lang/Object")))) ∈ lw_all := lw_g (lw_at lw_m4 135 rfl) rfl
theorem q984 : (Jvm.Cond.fieldLink "java/util/ArrayList" (39 : Nat) "java/util/ArrayList" "DEFAULTCAPACITY_EMPTY_ELEMENTDATA" "[Ljava/lang/Object;") ∈ lw_all := lw_g (lw_at lw_m4 136 rfl) rfl
theorem q985 : (Jvm.Cond.laysStatic "java/util/ArrayList" "DEFAULTCAPACITY_EMPTY_ELEMENTDATA" "[Ljava/lang/Object;") ∈ lw_tbl := lw_at lw_m4 137 rfl
theorem q986 : (Jvm.Cond.methodLink "java/util/ArrayList" (73 : Nat) ({ cls := "jdk/internal/util/ArraysSupport", name := "newLength", desc := "(III)I" } : Jvm.MethodName)) ∈ lw_all := lw_g (lw_at lw_m4 138 rfl) rfl
theorem q987 : (Jvm.Cond.methodLink "java/util/ArrayList" (66 : Nat) ({ cls := "java/util/Arrays", name := "copyOf", desc := "([Ljava/lang/Object;I)[Ljava/lang/Object;" } : Jvm.MethodName)) ∈ lw_all := lw_g (lw_at lw_m4 139 rfl) rfl
theorem q1016 : (Jvm.Cond.selects "java/util/ArrayList" ({ cls := "java/lang/Object", name := "getClass", desc := "()Ljava/lang/Class;" } : Jvm.MethodName) ({ cls := "java/lang/Object", name := "getClass", desc := "()Ljava/lang/Class;" } : Jvm.MethodName)) ∈ lw_all := lw_g (lw_at lw_m4 168 rfl) rfl
theorem q1026 : (Jvm.Cond.methodLink "java/util/ArrayList" (79 : Nat) ({ cls := "java/lang/Math", name := "max", desc := "(II)I" } : Jvm.MethodName)) ∈ lw_all := lw_g (lw_at lw_m4 178 rfl) rfl
theorem q1772 : (Jvm.Cond.selects "java/util/ArrayList" ({ cls := "java/util/AbstractCollection", name := "size", desc := "()I" } : Jvm.MethodName) ({ cls := "java/util/ArrayList", name := "size", desc := "()I" } : Jvm.MethodName)) ∈ lw_all := lw_g (lw_at lw_m7 204 rfl) rfl
theorem q3258 : (Jvm.Cond.castable "java/util/ArrayList" "java/lang/Object") ∈ lw_tbl := lw_at lw_m14 10 rfl
theorem in_J2 : ∀ w ∈ wsJ20, w ∈ lw_all := lw_in wsJ20 [535, 531, 533] (by decide +kernel) (by decide +kernel)
/-! java/lang/Throwable -/
set_option maxRecDepth 100000
def RJ3 : String := "java/lang/Throwable"
def TJ3 : u_T := fun k => match k with
  | 0 => ("java/lang/Throwable", "cause", "Ljava/lang/Throwable;", false)
  | 1 => ("java/lang/Throwable", "stackTrace", "[Ljava/lang/StackTraceElement;", false)
  | 2 => ("java/lang/Throwable", "suppressedExceptions", "Ljava/util/List;", false)
  | 3 => ("java/lang/Throwable", "detailMessage", "Ljava/lang/String;", false)
  | _ => ("java/lang/Throwable", "backtrace", "Ljava/lang/Object;", false)
def tyJ3 : Nat → FieldType := fun k => match k with
  | 0 => .object "java/lang/Throwable"
  | 1 => .array (.object "java/lang/StackTraceElement")
  | 2 => .object "java/util/List"
  | 3 => .object "java/lang/String"
  | _ => .object "java/lang/Object"
abbrev wsJ30 : List Cond := u_ws RJ3 TJ3 5
theorem nmJ3 : ∀ a, a < 5 → ∀ b, b < 5 → a ≠ b → (TJ3 a).2.1 ≠ (TJ3 b).2.1 := by decide +kernel
theorem tyJ3_ok : ∀ k, k < 5 → parseFieldDescriptor (TJ3 k).2.2.1 = some (tyJ3 k) := by decide +kernel
abbrev cJ3_init : ByteArray := prog_44_method_1_code
def yJ3_init : MethodName := ⟨RJ3, "<init>", "()V"⟩
def dkwJ3_init_1 : List UInt8 := [182, 0, 27, 87, 177]
abbrev dktJ3_init_1 : List UInt8 := dkwJ3_init_1 ++ []
def dkwJ3_init_0 : List UInt8 := [42, 183, 0, 1, 42, 42, 181, 0, 7, 42, 178, 0, 13, 181, 0, 17, 42, 178, 0, 20, 181, 0, 24, 42]
abbrev dktJ3_init_0 : List UInt8 := dkwJ3_init_0 ++ dktJ3_init_1
theorem dksJ3_init_0 : cJ3_init.data.toList.drop 0 = dktJ3_init_0 := by decide +kernel
theorem dksJ3_init_1 : cJ3_init.data.toList.drop 24 = dktJ3_init_1 := dk_seg dksJ3_init_0 24 rfl rfl
theorem dJ3_init_0 : decode cJ3_init 0 = .ok (.aload_n 0, 1) := dk_42 (dk_at dksJ3_init_0 0 rfl rfl)
theorem dJ3_init_1 : decode cJ3_init 1 = .ok (.invokespecial 1, 3) := dk_183 0 1 (dk_at dksJ3_init_0 1 rfl rfl)
theorem dJ3_init_4 : decode cJ3_init 4 = .ok (.aload_n 0, 1) := dk_42 (dk_at dksJ3_init_0 4 rfl rfl)
theorem dJ3_init_5 : decode cJ3_init 5 = .ok (.aload_n 0, 1) := dk_42 (dk_at dksJ3_init_0 5 rfl rfl)
theorem dJ3_init_6 : decode cJ3_init 6 = .ok (.putfield 7, 3) := dk_181 0 7 (dk_at dksJ3_init_0 6 rfl rfl)
theorem dJ3_init_9 : decode cJ3_init 9 = .ok (.aload_n 0, 1) := dk_42 (dk_at dksJ3_init_0 9 rfl rfl)
theorem dJ3_init_10 : decode cJ3_init 10 = .ok (.getstatic 13, 3) := dk_178 0 13 (dk_at dksJ3_init_0 10 rfl rfl)
theorem dJ3_init_13 : decode cJ3_init 13 = .ok (.putfield 17, 3) := dk_181 0 17 (dk_at dksJ3_init_0 13 rfl rfl)
theorem dJ3_init_16 : decode cJ3_init 16 = .ok (.aload_n 0, 1) := dk_42 (dk_at dksJ3_init_0 16 rfl rfl)
theorem dJ3_init_17 : decode cJ3_init 17 = .ok (.getstatic 20, 3) := dk_178 0 20 (dk_at dksJ3_init_0 17 rfl rfl)
theorem dJ3_init_20 : decode cJ3_init 20 = .ok (.putfield 24, 3) := dk_181 0 24 (dk_at dksJ3_init_0 20 rfl rfl)
theorem dJ3_init_23 : decode cJ3_init 23 = .ok (.aload_n 0, 1) := dk_42 (dk_at dksJ3_init_0 23 rfl rfl)
theorem dJ3_init_24 : decode cJ3_init 24 = .ok (.invokevirtual 27, 3) := dk_182 0 27 (dk_at dksJ3_init_1 0 rfl rfl)
theorem dJ3_init_27 : decode cJ3_init 27 = .ok (.pop, 1) := dk_87 (dk_at dksJ3_init_1 3 rfl rfl)
theorem dJ3_init_28 : decode cJ3_init 28 = .ok (.return_, 1) := dk_177 (dk_at dksJ3_init_1 4 rfl rfl)
abbrev cJ3_init_2 : ByteArray := prog_44_method_2_code
def yJ3_init_2 : MethodName := ⟨RJ3, "<init>", "(Ljava/lang/String;)V"⟩
def dkwJ3_init_2_1 : List UInt8 := [182, 0, 27, 87, 42, 43, 181, 0, 31, 177]
abbrev dktJ3_init_2_1 : List UInt8 := dkwJ3_init_2_1 ++ []
def dkwJ3_init_2_0 : List UInt8 := [42, 183, 0, 1, 42, 42, 181, 0, 7, 42, 178, 0, 13, 181, 0, 17, 42, 178, 0, 20, 181, 0, 24, 42]
abbrev dktJ3_init_2_0 : List UInt8 := dkwJ3_init_2_0 ++ dktJ3_init_2_1
theorem dksJ3_init_2_0 : cJ3_init_2.data.toList.drop 0 = dktJ3_init_2_0 := by decide +kernel
theorem dksJ3_init_2_1 : cJ3_init_2.data.toList.drop 24 = dktJ3_init_2_1 := dk_seg dksJ3_init_2_0 24 rfl rfl
theorem dJ3_init_2_0 : decode cJ3_init_2 0 = .ok (.aload_n 0, 1) := dk_42 (dk_at dksJ3_init_2_0 0 rfl rfl)
theorem dJ3_init_2_1 : decode cJ3_init_2 1 = .ok (.invokespecial 1, 3) := dk_183 0 1 (dk_at dksJ3_init_2_0 1 rfl rfl)
theorem dJ3_init_2_4 : decode cJ3_init_2 4 = .ok (.aload_n 0, 1) := dk_42 (dk_at dksJ3_init_2_0 4 rfl rfl)
theorem dJ3_init_2_5 : decode cJ3_init_2 5 = .ok (.aload_n 0, 1) := dk_42 (dk_at dksJ3_init_2_0 5 rfl rfl)
theorem dJ3_init_2_6 : decode cJ3_init_2 6 = .ok (.putfield 7, 3) := dk_181 0 7 (dk_at dksJ3_init_2_0 6 rfl rfl)
theorem dJ3_init_2_9 : decode cJ3_init_2 9 = .ok (.aload_n 0, 1) := dk_42 (dk_at dksJ3_init_2_0 9 rfl rfl)
theorem dJ3_init_2_10 : decode cJ3_init_2 10 = .ok (.getstatic 13, 3) := dk_178 0 13 (dk_at dksJ3_init_2_0 10 rfl rfl)
theorem dJ3_init_2_13 : decode cJ3_init_2 13 = .ok (.putfield 17, 3) := dk_181 0 17 (dk_at dksJ3_init_2_0 13 rfl rfl)
theorem dJ3_init_2_16 : decode cJ3_init_2 16 = .ok (.aload_n 0, 1) := dk_42 (dk_at dksJ3_init_2_0 16 rfl rfl)
theorem dJ3_init_2_17 : decode cJ3_init_2 17 = .ok (.getstatic 20, 3) := dk_178 0 20 (dk_at dksJ3_init_2_0 17 rfl rfl)
theorem dJ3_init_2_20 : decode cJ3_init_2 20 = .ok (.putfield 24, 3) := dk_181 0 24 (dk_at dksJ3_init_2_0 20 rfl rfl)
theorem dJ3_init_2_23 : decode cJ3_init_2 23 = .ok (.aload_n 0, 1) := dk_42 (dk_at dksJ3_init_2_0 23 rfl rfl)
theorem dJ3_init_2_24 : decode cJ3_init_2 24 = .ok (.invokevirtual 27, 3) := dk_182 0 27 (dk_at dksJ3_init_2_1 0 rfl rfl)
theorem dJ3_init_2_27 : decode cJ3_init_2 27 = .ok (.pop, 1) := dk_87 (dk_at dksJ3_init_2_1 3 rfl rfl)
theorem dJ3_init_2_28 : decode cJ3_init_2 28 = .ok (.aload_n 0, 1) := dk_42 (dk_at dksJ3_init_2_1 4 rfl rfl)
theorem dJ3_init_2_29 : decode cJ3_init_2 29 = .ok (.aload_n 1, 1) := dk_43 (dk_at dksJ3_init_2_1 5 rfl rfl)
theorem dJ3_init_2_30 : decode cJ3_init_2 30 = .ok (.putfield 31, 3) := dk_181 0 31 (dk_at dksJ3_init_2_1 6 rfl rfl)
theorem dJ3_init_2_33 : decode cJ3_init_2 33 = .ok (.return_, 1) := dk_177 (dk_at dksJ3_init_2_1 9 rfl rfl)
abbrev cJ3_init_3 : ByteArray := prog_44_method_5_code
def yJ3_init_3 : MethodName := ⟨RJ3, "<init>", "(Ljava/lang/String;Ljava/lang/Throwable;ZZ)V"⟩
def dkwJ3_init_3_2 : List UInt8 := [44, 181, 0, 7, 29, 154, 0, 8, 42, 1, 181, 0, 24, 177]
abbrev dktJ3_init_3_2 : List UInt8 := dkwJ3_init_3_2 ++ []
def dkwJ3_init_3_1 : List UInt8 := [21, 4, 153, 0, 11, 42, 182, 0, 27, 87, 167, 0, 8, 42, 1, 181, 0, 17, 42, 43, 181, 0, 31, 42]
abbrev dktJ3_init_3_1 : List UInt8 := dkwJ3_init_3_1 ++ dktJ3_init_3_2
def dkwJ3_init_3_0 : List UInt8 := [42, 183, 0, 1, 42, 42, 181, 0, 7, 42, 178, 0, 13, 181, 0, 17, 42, 178, 0, 20, 181, 0, 24]
abbrev dktJ3_init_3_0 : List UInt8 := dkwJ3_init_3_0 ++ dktJ3_init_3_1
theorem dksJ3_init_3_0 : cJ3_init_3.data.toList.drop 0 = dktJ3_init_3_0 := by decide +kernel
theorem dksJ3_init_3_1 : cJ3_init_3.data.toList.drop 23 = dktJ3_init_3_1 := dk_seg dksJ3_init_3_0 23 rfl rfl
theorem dksJ3_init_3_2 : cJ3_init_3.data.toList.drop 47 = dktJ3_init_3_2 := dk_seg dksJ3_init_3_1 24 rfl rfl
theorem dJ3_init_3_0 : decode cJ3_init_3 0 = .ok (.aload_n 0, 1) := dk_42 (dk_at dksJ3_init_3_0 0 rfl rfl)
theorem dJ3_init_3_1 : decode cJ3_init_3 1 = .ok (.invokespecial 1, 3) := dk_183 0 1 (dk_at dksJ3_init_3_0 1 rfl rfl)
theorem dJ3_init_3_4 : decode cJ3_init_3 4 = .ok (.aload_n 0, 1) := dk_42 (dk_at dksJ3_init_3_0 4 rfl rfl)
theorem dJ3_init_3_5 : decode cJ3_init_3 5 = .ok (.aload_n 0, 1) := dk_42 (dk_at dksJ3_init_3_0 5 rfl rfl)
theorem dJ3_init_3_6 : decode cJ3_init_3 6 = .ok (.putfield 7, 3) := dk_181 0 7 (dk_at dksJ3_init_3_0 6 rfl rfl)
theorem dJ3_init_3_9 : decode cJ3_init_3 9 = .ok (.aload_n 0, 1) := dk_42 (dk_at dksJ3_init_3_0 9 rfl rfl)
theorem dJ3_init_3_10 : decode cJ3_init_3 10 = .ok (.getstatic 13, 3) := dk_178 0 13 (dk_at dksJ3_init_3_0 10 rfl rfl)
theorem dJ3_init_3_13 : decode cJ3_init_3 13 = .ok (.putfield 17, 3) := dk_181 0 17 (dk_at dksJ3_init_3_0 13 rfl rfl)
theorem dJ3_init_3_16 : decode cJ3_init_3 16 = .ok (.aload_n 0, 1) := dk_42 (dk_at dksJ3_init_3_0 16 rfl rfl)
theorem dJ3_init_3_17 : decode cJ3_init_3 17 = .ok (.getstatic 20, 3) := dk_178 0 20 (dk_at dksJ3_init_3_0 17 rfl rfl)
theorem dJ3_init_3_20 : decode cJ3_init_3 20 = .ok (.putfield 24, 3) := dk_181 0 24 (dk_at dksJ3_init_3_0 20 rfl rfl)
theorem dJ3_init_3_23 : decode cJ3_init_3 23 = .ok (.iload 4, 2) := dk_21 4 (dk_at dksJ3_init_3_1 0 rfl rfl)
theorem dJ3_init_3_25 : decode cJ3_init_3 25 = .ok (.ifCond .eq 11, 3) := dk_153 0 11 (dk_at dksJ3_init_3_1 2 rfl rfl)
theorem dJ3_init_3_28 : decode cJ3_init_3 28 = .ok (.aload_n 0, 1) := dk_42 (dk_at dksJ3_init_3_1 5 rfl rfl)
theorem dJ3_init_3_29 : decode cJ3_init_3 29 = .ok (.invokevirtual 27, 3) := dk_182 0 27 (dk_at dksJ3_init_3_1 6 rfl rfl)
theorem dJ3_init_3_32 : decode cJ3_init_3 32 = .ok (.pop, 1) := dk_87 (dk_at dksJ3_init_3_1 9 rfl rfl)
theorem dJ3_init_3_33 : decode cJ3_init_3 33 = .ok (.goto 8, 3) := dk_167 0 8 (dk_at dksJ3_init_3_1 10 rfl rfl)
theorem dJ3_init_3_36 : decode cJ3_init_3 36 = .ok (.aload_n 0, 1) := dk_42 (dk_at dksJ3_init_3_1 13 rfl rfl)
theorem dJ3_init_3_37 : decode cJ3_init_3 37 = .ok (.aconst_null, 1) := dk_1 (dk_at dksJ3_init_3_1 14 rfl rfl)
theorem dJ3_init_3_38 : decode cJ3_init_3 38 = .ok (.putfield 17, 3) := dk_181 0 17 (dk_at dksJ3_init_3_1 15 rfl rfl)
theorem dJ3_init_3_41 : decode cJ3_init_3 41 = .ok (.aload_n 0, 1) := dk_42 (dk_at dksJ3_init_3_1 18 rfl rfl)
theorem dJ3_init_3_42 : decode cJ3_init_3 42 = .ok (.aload_n 1, 1) := dk_43 (dk_at dksJ3_init_3_1 19 rfl rfl)
theorem dJ3_init_3_43 : decode cJ3_init_3 43 = .ok (.putfield 31, 3) := dk_181 0 31 (dk_at dksJ3_init_3_1 20 rfl rfl)
theorem dJ3_init_3_46 : decode cJ3_init_3 46 = .ok (.aload_n 0, 1) := dk_42 (dk_at dksJ3_init_3_1 23 rfl rfl)
theorem dJ3_init_3_47 : decode cJ3_init_3 47 = .ok (.aload_n 2, 1) := dk_44 (dk_at dksJ3_init_3_2 0 rfl rfl)
theorem dJ3_init_3_48 : decode cJ3_init_3 48 = .ok (.putfield 7, 3) := dk_181 0 7 (dk_at dksJ3_init_3_2 1 rfl rfl)
theorem dJ3_init_3_51 : decode cJ3_init_3 51 = .ok (.iload_n 3, 1) := dk_29 (dk_at dksJ3_init_3_2 4 rfl rfl)
theorem dJ3_init_3_52 : decode cJ3_init_3 52 = .ok (.ifCond .ne 8, 3) := dk_154 0 8 (dk_at dksJ3_init_3_2 5 rfl rfl)
theorem dJ3_init_3_55 : decode cJ3_init_3 55 = .ok (.aload_n 0, 1) := dk_42 (dk_at dksJ3_init_3_2 8 rfl rfl)
theorem dJ3_init_3_56 : decode cJ3_init_3 56 = .ok (.aconst_null, 1) := dk_1 (dk_at dksJ3_init_3_2 9 rfl rfl)
theorem dJ3_init_3_57 : decode cJ3_init_3 57 = .ok (.putfield 24, 3) := dk_181 0 24 (dk_at dksJ3_init_3_2 10 rfl rfl)
theorem dJ3_init_3_60 : decode cJ3_init_3 60 = .ok (.return_, 1) := dk_177 (dk_at dksJ3_init_3_2 13 rfl rfl)
theorem q134 : (Jvm.Cond.initialized "java/lang/Throwable") ∈ lw_all := lw_g (lw_at lw_m1 6 rfl) rfl
theorem q213 : (Jvm.Cond.declares ({ cls := "java/lang/Throwable", name := "<init>", desc := "()V" } : Jvm.MethodName)) ∈ lw_tbl := lw_at lw_m1 85 rfl
theorem q214 : (Jvm.Cond.declares ({ cls := "java/lang/Throwable", name := "<init>", desc := "(Ljava/lang/String;)V" } : Jvm.MethodName)) ∈ lw_tbl := lw_at lw_m1 86 rfl
theorem q218 : (Jvm.Cond.lays "java/lang/Throwable" "java/lang/Throwable" "cause" "Ljava/lang/Throwable;") ∈ lw_all := lw_g (lw_at lw_m1 90 rfl) rfl
theorem q220 : (Jvm.Cond.lays "java/lang/Throwable" "java/lang/Throwable" "stackTrace" "[Ljava/lang/StackTraceElement;") ∈ lw_all := lw_g (lw_at lw_m1 92 rfl) rfl
theorem q222 : (Jvm.Cond.lays "java/lang/Throwable" "java/lang/Throwable" "suppressedExceptions" "Ljava/util/List;") ∈ lw_all := lw_g (lw_at lw_m1 94 rfl) rfl
theorem q224 : (Jvm.Cond.lays "java/lang/Throwable" "java/lang/Throwable" "detailMessage" "Ljava/lang/String;") ∈ lw_all := lw_g (lw_at lw_m1 96 rfl) rfl
theorem q226 : (Jvm.Cond.lays "java/lang/Throwable" "java/lang/Throwable" "backtrace" "Ljava/lang/Object;") ∈ lw_all := lw_g (lw_at lw_m1 98 rfl) rfl
theorem q227 : (Jvm.Cond.fieldLink "java/lang/Throwable" (198 : Nat) "java/lang/Throwable" "backtrace" "Ljava/lang/Object;") ∈ lw_all := lw_g (lw_at lw_m1 99 rfl) rfl
theorem q228 : (Jvm.Cond.superclass "java/lang/Throwable" "java/lang/Object") ∈ lw_all := lw_g (lw_at lw_m1 100 rfl) rfl
theorem q229 : (Jvm.Cond.instanceMethod ({ cls := "java/lang/Throwable", name := "<init>", desc := "()V" } : Jvm.MethodName)) ∈ lw_all := lw_g (lw_at lw_m1 101 rfl) rfl
theorem q230 : (Jvm.Cond.code ({ cls := "java/lang/Throwable", name := "<init>", desc := "()V" } : Jvm.MethodName) prog_44_method_1_code (1 : Nat) (Option.none : Option Jvm.ClassFile.FieldType)) ∈ lw_all := lw_g (lw_at lw_m1 102 rfl) rfl
theorem q231 : (Jvm.Cond.methodLink "java/lang/Throwable" (1 : Nat) ({ cls := "java/lang/Object", name := "<init>", desc := "()V" } : Jvm.MethodName)) ∈ lw_all := lw_g (lw_at lw_m1 103 rfl) rfl
theorem q232 : (Jvm.Cond.fieldLink "java/lang/Throwable" (13 : Nat) "java/lang/Throwable" "UNASSIGNED_STACK" "[Ljava/lang/StackTraceElement;") ∈ lw_all := lw_g (lw_at lw_m1 104 rfl) rfl
theorem q233 : (Jvm.Cond.laysStatic "java/lang/Throwable" "UNASSIGNED_STACK" "[Ljava/lang/StackTraceElement;") ∈ lw_tbl := lw_at lw_m1 105 rfl
theorem q234 : (Jvm.Cond.fieldLink "java/lang/Throwable" (20 : Nat) "java/lang/Throwable" "SUPPRESSED_SENTINEL" "Ljava/util/List;") ∈ lw_all := lw_g (lw_at lw_m1 106 rfl) rfl
theorem q235 : (Jvm.Cond.laysStatic "java/lang/Throwable" "SUPPRESSED_SENTINEL" "Ljava/util/List;") ∈ lw_tbl := lw_at lw_m1 107 rfl
theorem q236 : (Jvm.Cond.methodLink "java/lang/Throwable" (27 : Nat) ({ cls := "java/lang/Throwable", name := "fillInStackTrace", desc := "()Ljava/lang/Throwable;" } : Jvm.MethodName)) ∈ lw_all := lw_g (lw_at lw_m1 108 rfl) rfl
theorem q237 : (Jvm.Cond.instanceMethod ({ cls := "java/lang/Throwable", name := "fillInStackTrace", desc := "()Ljava/lang/Throwable;" } : Jvm.MethodName)) ∈ lw_all := lw_g (lw_at lw_m1 109 rfl) rfl
theorem q238 : (Jvm.Cond.sameMethod "java/lang/Throwable" "java/lang/Throwable" "fillInStackTrace" "()Ljava/lang/Throwable;") ∈ lw_all := lw_g (lw_at lw_m1 110 rfl) rfl
theorem q244 : (Jvm.Cond.codeSync ({ cls := "java/lang/Throwable", name := "fillInStackTrace", desc := "()Ljava/lang/Throwable;" } : Jvm.MethodName) prog_44_method_18_code (1 : Nat) (Option.some (Jvm.ClassFile.FieldType.object "java/lang/Throwable"))) ∈ lw_all := lw_g (lw_at lw_m1 116 rfl) rfl
theorem q245 : (Jvm.Cond.methodLink "java/lang/Throwable" (202 : Nat) ({ cls := "java/lang/Throwable", name := "fillInStackTrace", desc := "(I)Ljava/lang/Throwable;" } : Jvm.MethodName)) ∈ lw_all := lw_g (lw_at lw_m1 117 rfl) rfl
theorem q246 : (Jvm.Cond.privateMethod ({ cls := "java/lang/Throwable", name := "fillInStackTrace", desc := "(I)Ljava/lang/Throwable;" } : Jvm.MethodName)) ∈ lw_tbl := lw_at lw_m1 118 rfl
theorem q247 : (Jvm.Cond.instanceMethod ({ cls := "java/lang/Throwable", name := "fillInStackTrace", desc := "(I)Ljava/lang/Throwable;" } : Jvm.MethodName)) ∈ lw_all := lw_g (lw_at lw_m1 119 rfl) rfl
theorem q248 : (Jvm.Cond.instantiable "java/lang/Throwable" (6 : Nat)) ∈ lw_all := lw_g (lw_at lw_m1 120 rfl) rfl
theorem q249 : (Jvm.Cond.native ({ cls := "java/lang/Throwable", name := "fillInStackTrace", desc := "(I)Ljava/lang/Throwable;" } : Jvm.MethodName)) ∈ lw_all := lw_g (lw_at lw_m1 121 rfl) rfl
theorem q482 : (Jvm.Cond.instanceMethod ({ cls := "java/lang/Throwable", name := "<init>", desc := "(Ljava/lang/String;)V" } : Jvm.MethodName)) ∈ lw_all := lw_g (lw_at lw_m2 114 rfl) rfl
theorem q483 : (Jvm.Cond.code ({ cls := "java/lang/Throwable", name := "<init>", desc := "(Ljava/lang/String;)V" } : Jvm.MethodName) prog_44_method_2_code (2 : Nat) (Option.none : Option Jvm.ClassFile.FieldType)) ∈ lw_all := lw_g (lw_at lw_m2 115 rfl) rfl
theorem q484 : (Jvm.Cond.fieldLink "java/lang/Throwable" (198 : Nat) "java/lang/Throwable" "backtrace" "Ljava/lang/Object;") ∈ lw_all := lw_g (lw_at lw_m2 116 rfl) rfl
theorem q485 : (Jvm.Cond.fieldLink "java/lang/Throwable" (31 : Nat) "java/lang/Throwable" "detailMessage" "Ljava/lang/String;") ∈ lw_all := lw_g (lw_at lw_m2 117 rfl) rfl
theorem q486 : (Jvm.Cond.fieldLink "java/lang/Throwable" (7 : Nat) "java/lang/Throwable" "cause" "Ljava/lang/Throwable;") ∈ lw_all := lw_g (lw_at lw_m2 118 rfl) rfl
theorem q487 : (Jvm.Cond.fieldLink "java/lang/Throwable" (17 : Nat) "java/lang/Throwable" "stackTrace" "[Ljava/lang/StackTraceElement;") ∈ lw_all := lw_g (lw_at lw_m2 119 rfl) rfl
theorem q488 : (Jvm.Cond.fieldLink "java/lang/Throwable" (24 : Nat) "java/lang/Throwable" "suppressedExceptions" "Ljava/util/List;") ∈ lw_all := lw_g (lw_at lw_m2 120 rfl) rfl
theorem q489 : (Jvm.Cond.soleField "java/lang/Throwable" "backtrace") ∈ lw_all := lw_g (lw_at lw_m2 121 rfl) rfl
theorem q490 : (Jvm.Cond.soleField "java/lang/Throwable" "detailMessage") ∈ lw_all := lw_g (lw_at lw_m2 122 rfl) rfl
theorem q491 : (Jvm.Cond.soleField "java/lang/Throwable" "cause") ∈ lw_all := lw_g (lw_at lw_m2 123 rfl) rfl
theorem q492 : (Jvm.Cond.soleField "java/lang/Throwable" "stackTrace") ∈ lw_all := lw_g (lw_at lw_m2 124 rfl) rfl
theorem q494 : (Jvm.Cond.soleField "java/lang/Throwable" "depth") ∈ lw_all := lw_g (lw_at lw_m2 126 rfl) rfl
theorem q495 : (Jvm.Cond.soleField "java/lang/Throwable" "suppressedExceptions") ∈ lw_all := lw_g (lw_at lw_m2 127 rfl) rfl
theorem q1433 : (Jvm.Cond.instanceMethod ({ cls := "java/lang/Throwable", name := "<init>", desc := "(Ljava/lang/String;Ljava/lang/Throwable;ZZ)V" } : Jvm.MethodName)) ∈ lw_all := lw_g (lw_at lw_m6 105 rfl) rfl
theorem q1434 : (Jvm.Cond.code ({ cls := "java/lang/Throwable", name := "<init>", desc := "(Ljava/lang/String;Ljava/lang/Throwable;ZZ)V" } : Jvm.MethodName) prog_44_method_5_code (5 : Nat) (Option.none : Option Jvm.ClassFile.FieldType)) ∈ lw_all := lw_g (lw_at lw_m6 106 rfl) rfl
theorem q3236 : (Jvm.Cond.sameMethod "java/lang/Throwable" "java/lang/Throwable" "fillInStackTrace" "(I)Ljava/lang/Throwable;") ∈ lw_all := lw_g (lw_at lw_m13 228 rfl) rfl
theorem q3282 : (Jvm.Cond.castable "java/lang/Throwable" "java/lang/Object") ∈ lw_tbl := lw_at lw_m14 34 rfl
theorem in_J3 : ∀ w ∈ wsJ30, w ∈ lw_all := lw_in wsJ30 [218, 220, 222, 224, 226] (by decide +kernel) (by decide +kernel)
/-! java/lang/Exception -/
set_option maxRecDepth 100000
def RJ4 : String := "java/lang/Exception"
abbrev cJ4_init : ByteArray := prog_25_method_2_code
def yJ4_init : MethodName := ⟨RJ4, "<init>", "(Ljava/lang/String;)V"⟩
def dkwJ4_init_0 : List UInt8 := [42, 43, 183, 0, 7, 177]
abbrev dktJ4_init_0 : List UInt8 := dkwJ4_init_0 ++ []
theorem dksJ4_init_0 : cJ4_init.data.toList.drop 0 = dktJ4_init_0 := by decide +kernel
theorem dJ4_init_0 : decode cJ4_init 0 = .ok (.aload_n 0, 1) := dk_42 (dk_at dksJ4_init_0 0 rfl rfl)
theorem dJ4_init_1 : decode cJ4_init 1 = .ok (.aload_n 1, 1) := dk_43 (dk_at dksJ4_init_0 1 rfl rfl)
theorem dJ4_init_2 : decode cJ4_init 2 = .ok (.invokespecial 7, 3) := dk_183 0 7 (dk_at dksJ4_init_0 2 rfl rfl)
theorem dJ4_init_5 : decode cJ4_init 5 = .ok (.return_, 1) := dk_177 (dk_at dksJ4_init_0 5 rfl rfl)
abbrev cJ4_init_2 : ByteArray := prog_25_method_5_code
def yJ4_init_2 : MethodName := ⟨RJ4, "<init>", "(Ljava/lang/String;Ljava/lang/Throwable;ZZ)V"⟩
def dkwJ4_init_2_0 : List UInt8 := [42, 43, 44, 29, 21, 4, 183, 0, 16, 177]
abbrev dktJ4_init_2_0 : List UInt8 := dkwJ4_init_2_0 ++ []
theorem dksJ4_init_2_0 : cJ4_init_2.data.toList.drop 0 = dktJ4_init_2_0 := by decide +kernel
theorem dJ4_init_2_0 : decode cJ4_init_2 0 = .ok (.aload_n 0, 1) := dk_42 (dk_at dksJ4_init_2_0 0 rfl rfl)
theorem dJ4_init_2_1 : decode cJ4_init_2 1 = .ok (.aload_n 1, 1) := dk_43 (dk_at dksJ4_init_2_0 1 rfl rfl)
theorem dJ4_init_2_2 : decode cJ4_init_2 2 = .ok (.aload_n 2, 1) := dk_44 (dk_at dksJ4_init_2_0 2 rfl rfl)
theorem dJ4_init_2_3 : decode cJ4_init_2 3 = .ok (.iload_n 3, 1) := dk_29 (dk_at dksJ4_init_2_0 3 rfl rfl)
theorem dJ4_init_2_4 : decode cJ4_init_2 4 = .ok (.iload 4, 2) := dk_21 4 (dk_at dksJ4_init_2_0 4 rfl rfl)
theorem dJ4_init_2_6 : decode cJ4_init_2 6 = .ok (.invokespecial 16, 3) := dk_183 0 16 (dk_at dksJ4_init_2_0 6 rfl rfl)
theorem dJ4_init_2_9 : decode cJ4_init_2 9 = .ok (.return_, 1) := dk_177 (dk_at dksJ4_init_2_0 9 rfl rfl)
abbrev cJ4_init_3 : ByteArray := prog_25_method_1_code
def yJ4_init_3 : MethodName := ⟨RJ4, "<init>", "()V"⟩
theorem dJ4_init_3_0 : decode cJ4_init_3 0 = .ok (.aload_n 0, 1) := by decide +kernel
theorem dJ4_init_3_1 : decode cJ4_init_3 1 = .ok (.invokespecial 1, 3) := by decide +kernel
theorem dJ4_init_3_4 : decode cJ4_init_3 4 = .ok (.return_, 1) := by decide +kernel
theorem q135 : (Jvm.Cond.initialized "java/lang/Exception") ∈ lw_all := lw_g (lw_at lw_m1 7 rfl) rfl
theorem q211 : (Jvm.Cond.declares ({ cls := "java/lang/Exception", name := "<init>", desc := "()V" } : Jvm.MethodName)) ∈ lw_tbl := lw_at lw_m1 83 rfl
theorem q212 : (Jvm.Cond.declares ({ cls := "java/lang/Exception", name := "<init>", desc := "(Ljava/lang/String;)V" } : Jvm.MethodName)) ∈ lw_tbl := lw_at lw_m1 84 rfl
theorem q479 : (Jvm.Cond.instanceMethod ({ cls := "java/lang/Exception", name := "<init>", desc := "(Ljava/lang/String;)V" } : Jvm.MethodName)) ∈ lw_all := lw_g (lw_at lw_m2 111 rfl) rfl
theorem q480 : (Jvm.Cond.code ({ cls := "java/lang/Exception", name := "<init>", desc := "(Ljava/lang/String;)V" } : Jvm.MethodName) prog_25_method_2_code (2 : Nat) (Option.none : Option Jvm.ClassFile.FieldType)) ∈ lw_all := lw_g (lw_at lw_m2 112 rfl) rfl
theorem q481 : (Jvm.Cond.methodLink "java/lang/Exception" (7 : Nat) ({ cls := "java/lang/Throwable", name := "<init>", desc := "(Ljava/lang/String;)V" } : Jvm.MethodName)) ∈ lw_all := lw_g (lw_at lw_m2 113 rfl) rfl
theorem q1430 : (Jvm.Cond.instanceMethod ({ cls := "java/lang/Exception", name := "<init>", desc := "(Ljava/lang/String;Ljava/lang/Throwable;ZZ)V" } : Jvm.MethodName)) ∈ lw_all := lw_g (lw_at lw_m6 102 rfl) rfl
theorem q1431 : (Jvm.Cond.code ({ cls := "java/lang/Exception", name := "<init>", desc := "(Ljava/lang/String;Ljava/lang/Throwable;ZZ)V" } : Jvm.MethodName) prog_25_method_5_code (5 : Nat) (Option.none : Option Jvm.ClassFile.FieldType)) ∈ lw_all := lw_g (lw_at lw_m6 103 rfl) rfl
theorem q1432 : (Jvm.Cond.methodLink "java/lang/Exception" (16 : Nat) ({ cls := "java/lang/Throwable", name := "<init>", desc := "(Ljava/lang/String;Ljava/lang/Throwable;ZZ)V" } : Jvm.MethodName)) ∈ lw_all := lw_g (lw_at lw_m6 104 rfl) rfl
theorem q1760 : (Jvm.Cond.instanceMethod ({ cls := "java/lang/Exception", name := "<init>", desc := "()V" } : Jvm.MethodName)) ∈ lw_all := lw_g (lw_at lw_m7 192 rfl) rfl
theorem q1761 : (Jvm.Cond.code ({ cls := "java/lang/Exception", name := "<init>", desc := "()V" } : Jvm.MethodName) prog_25_method_1_code (1 : Nat) (Option.none : Option Jvm.ClassFile.FieldType)) ∈ lw_all := lw_g (lw_at lw_m7 193 rfl) rfl
theorem q1762 : (Jvm.Cond.methodLink "java/lang/Exception" (1 : Nat) ({ cls := "java/lang/Throwable", name := "<init>", desc := "()V" } : Jvm.MethodName)) ∈ lw_all := lw_g (lw_at lw_m7 194 rfl) rfl
/-! java/lang/RuntimeException -/
set_option maxRecDepth 100000
def RJ5 : String := "java/lang/RuntimeException"
abbrev cJ5_init : ByteArray := prog_35_method_2_code
def yJ5_init : MethodName := ⟨RJ5, "<init>", "(Ljava/lang/String;)V"⟩
def dkwJ5_init_0 : List UInt8 := [42, 43, 183, 0, 7, 177]
abbrev dktJ5_init_0 : List UInt8 := dkwJ5_init_0 ++ []
theorem dksJ5_init_0 : cJ5_init.data.toList.drop 0 = dktJ5_init_0 := by decide +kernel
theorem dJ5_init_0 : decode cJ5_init 0 = .ok (.aload_n 0, 1) := dk_42 (dk_at dksJ5_init_0 0 rfl rfl)
theorem dJ5_init_1 : decode cJ5_init 1 = .ok (.aload_n 1, 1) := dk_43 (dk_at dksJ5_init_0 1 rfl rfl)
theorem dJ5_init_2 : decode cJ5_init 2 = .ok (.invokespecial 7, 3) := dk_183 0 7 (dk_at dksJ5_init_0 2 rfl rfl)
theorem dJ5_init_5 : decode cJ5_init 5 = .ok (.return_, 1) := dk_177 (dk_at dksJ5_init_0 5 rfl rfl)
abbrev cJ5_init_2 : ByteArray := prog_35_method_1_code
def yJ5_init_2 : MethodName := ⟨RJ5, "<init>", "()V"⟩
theorem dJ5_init_2_0 : decode cJ5_init_2 0 = .ok (.aload_n 0, 1) := by decide +kernel
theorem dJ5_init_2_1 : decode cJ5_init_2 1 = .ok (.invokespecial 1, 3) := by decide +kernel
theorem dJ5_init_2_4 : decode cJ5_init_2 4 = .ok (.return_, 1) := by decide +kernel
theorem q136 : (Jvm.Cond.initialized "java/lang/RuntimeException") ∈ lw_all := lw_g (lw_at lw_m1 8 rfl) rfl
theorem q209 : (Jvm.Cond.declares ({ cls := "java/lang/RuntimeException", name := "<init>", desc := "()V" } : Jvm.MethodName)) ∈ lw_tbl := lw_at lw_m1 81 rfl
theorem q210 : (Jvm.Cond.declares ({ cls := "java/lang/RuntimeException", name := "<init>", desc := "(Ljava/lang/String;)V" } : Jvm.MethodName)) ∈ lw_tbl := lw_at lw_m1 82 rfl
theorem q476 : (Jvm.Cond.instanceMethod ({ cls := "java/lang/RuntimeException", name := "<init>", desc := "(Ljava/lang/String;)V" } : Jvm.MethodName)) ∈ lw_all := lw_g (lw_at lw_m2 108 rfl) rfl
theorem q477 : (Jvm.Cond.code ({ cls := "java/lang/RuntimeException", name := "<init>", desc := "(Ljava/lang/String;)V" } : Jvm.MethodName) prog_35_method_2_code (2 : Nat) (Option.none : Option Jvm.ClassFile.FieldType)) ∈ lw_all := lw_g (lw_at lw_m2 109 rfl) rfl
theorem q478 : (Jvm.Cond.methodLink "java/lang/RuntimeException" (7 : Nat) ({ cls := "java/lang/Exception", name := "<init>", desc := "(Ljava/lang/String;)V" } : Jvm.MethodName)) ∈ lw_all := lw_g (lw_at lw_m2 110 rfl) rfl
theorem q1757 : (Jvm.Cond.instanceMethod ({ cls := "java/lang/RuntimeException", name := "<init>", desc := "()V" } : Jvm.MethodName)) ∈ lw_all := lw_g (lw_at lw_m7 189 rfl) rfl
theorem q1758 : (Jvm.Cond.code ({ cls := "java/lang/RuntimeException", name := "<init>", desc := "()V" } : Jvm.MethodName) prog_35_method_1_code (1 : Nat) (Option.none : Option Jvm.ClassFile.FieldType)) ∈ lw_all := lw_g (lw_at lw_m7 190 rfl) rfl
theorem q1759 : (Jvm.Cond.methodLink "java/lang/RuntimeException" (1 : Nat) ({ cls := "java/lang/Exception", name := "<init>", desc := "()V" } : Jvm.MethodName)) ∈ lw_all := lw_g (lw_at lw_m7 191 rfl) rfl
/-! java/lang/IllegalArgumentException -/
set_option maxRecDepth 100000
def RJ6 : String := "java/lang/IllegalArgumentException"
def TJ6 : u_T := fun k => match k with
  | 0 => ("java/lang/Throwable", "cause", "Ljava/lang/Throwable;", false)
  | 1 => ("java/lang/Throwable", "stackTrace", "[Ljava/lang/StackTraceElement;", false)
  | 2 => ("java/lang/Throwable", "suppressedExceptions", "Ljava/util/List;", false)
  | 3 => ("java/lang/Throwable", "detailMessage", "Ljava/lang/String;", false)
  | 4 => ("java/lang/Throwable", "backtrace", "Ljava/lang/Object;", false)
  | _ => ("java/lang/Throwable", "depth", "I", false)
def tyJ6 : Nat → FieldType := fun k => match k with
  | 0 => .object "java/lang/Throwable"
  | 1 => .array (.object "java/lang/StackTraceElement")
  | 2 => .object "java/util/List"
  | 3 => .object "java/lang/String"
  | 4 => .object "java/lang/Object"
  | _ => .int
abbrev wsJ60 : List Cond := u_ws RJ6 TJ6 6
theorem nmJ6 : ∀ a, a < 6 → ∀ b, b < 6 → a ≠ b → (TJ6 a).2.1 ≠ (TJ6 b).2.1 := by decide +kernel
theorem tyJ6_ok : ∀ k, k < 6 → parseFieldDescriptor (TJ6 k).2.2.1 = some (tyJ6 k) := by decide +kernel
abbrev cJ6_init : ByteArray := prog_26_method_2_code
def yJ6_init : MethodName := ⟨RJ6, "<init>", "(Ljava/lang/String;)V"⟩
def dkwJ6_init_0 : List UInt8 := [42, 43, 183, 0, 7, 177]
abbrev dktJ6_init_0 : List UInt8 := dkwJ6_init_0 ++ []
theorem dksJ6_init_0 : cJ6_init.data.toList.drop 0 = dktJ6_init_0 := by decide +kernel
theorem dJ6_init_0 : decode cJ6_init 0 = .ok (.aload_n 0, 1) := dk_42 (dk_at dksJ6_init_0 0 rfl rfl)
theorem dJ6_init_1 : decode cJ6_init 1 = .ok (.aload_n 1, 1) := dk_43 (dk_at dksJ6_init_0 1 rfl rfl)
theorem dJ6_init_2 : decode cJ6_init 2 = .ok (.invokespecial 7, 3) := dk_183 0 7 (dk_at dksJ6_init_0 2 rfl rfl)
theorem dJ6_init_5 : decode cJ6_init 5 = .ok (.return_, 1) := dk_177 (dk_at dksJ6_init_0 5 rfl rfl)
abbrev cJ6_init_2 : ByteArray := prog_26_method_1_code
def yJ6_init_2 : MethodName := ⟨RJ6, "<init>", "()V"⟩
theorem dJ6_init_2_0 : decode cJ6_init_2 0 = .ok (.aload_n 0, 1) := by decide +kernel
theorem dJ6_init_2_1 : decode cJ6_init_2 1 = .ok (.invokespecial 1, 3) := by decide +kernel
theorem dJ6_init_2_4 : decode cJ6_init_2 4 = .ok (.return_, 1) := by decide +kernel
theorem q137 : (Jvm.Cond.initialized "java/lang/IllegalArgumentException") ∈ lw_all := lw_g (lw_at lw_m1 9 rfl) rfl
theorem q207 : (Jvm.Cond.instantiable "java/lang/IllegalArgumentException" (6 : Nat)) ∈ lw_all := lw_g (lw_at lw_m1 79 rfl) rfl
theorem q208 : (Jvm.Cond.castable "java/lang/IllegalArgumentException" "java/lang/IllegalArgumentException") ∈ lw_tbl := lw_at lw_m1 80 rfl
theorem q215 : (Jvm.Cond.selects "java/lang/IllegalArgumentException" ({ cls := "java/lang/Throwable", name := "fillInStackTrace", desc := "(I)Ljava/lang/Throwable;" } : Jvm.MethodName) ({ cls := "java/lang/Throwable", name := "fillInStackTrace", desc := "(I)Ljava/lang/Throwable;" } : Jvm.MethodName)) ∈ lw_all := lw_g (lw_at lw_m1 87 rfl) rfl
theorem q216 : (Jvm.Cond.selects "java/lang/IllegalArgumentException" ({ cls := "java/lang/Throwable", name := "fillInStackTrace", desc := "()Ljava/lang/Throwable;" } : Jvm.MethodName) ({ cls := "java/lang/Throwable", name := "fillInStackTrace", desc := "()Ljava/lang/Throwable;" } : Jvm.MethodName)) ∈ lw_all := lw_g (lw_at lw_m1 88 rfl) rfl
theorem q217 : (Jvm.Cond.lays "java/lang/IllegalArgumentException" "java/lang/Throwable" "cause" "Ljava/lang/Throwable;") ∈ lw_all := lw_g (lw_at lw_m1 89 rfl) rfl
theorem q219 : (Jvm.Cond.lays "java/lang/IllegalArgumentException" "java/lang/Throwable" "stackTrace" "[Ljava/lang/StackTraceElement;") ∈ lw_all := lw_g (lw_at lw_m1 91 rfl) rfl
theorem q221 : (Jvm.Cond.lays "java/lang/IllegalArgumentException" "java/lang/Throwable" "suppressedExceptions" "Ljava/util/List;") ∈ lw_all := lw_g (lw_at lw_m1 93 rfl) rfl
theorem q223 : (Jvm.Cond.lays "java/lang/IllegalArgumentException" "java/lang/Throwable" "detailMessage" "Ljava/lang/String;") ∈ lw_all := lw_g (lw_at lw_m1 95 rfl) rfl
theorem q225 : (Jvm.Cond.lays "java/lang/IllegalArgumentException" "java/lang/Throwable" "backtrace" "Ljava/lang/Object;") ∈ lw_all := lw_g (lw_at lw_m1 97 rfl) rfl
theorem q473 : (Jvm.Cond.instanceMethod ({ cls := "java/lang/IllegalArgumentException", name := "<init>", desc := "(Ljava/lang/String;)V" } : Jvm.MethodName)) ∈ lw_all := lw_g (lw_at lw_m2 105 rfl) rfl
theorem q474 : (Jvm.Cond.code ({ cls := "java/lang/IllegalArgumentException", name := "<init>", desc := "(Ljava/lang/String;)V" } : Jvm.MethodName) prog_26_method_2_code (2 : Nat) (Option.none : Option Jvm.ClassFile.FieldType)) ∈ lw_all := lw_g (lw_at lw_m2 106 rfl) rfl
theorem q475 : (Jvm.Cond.methodLink "java/lang/IllegalArgumentException" (7 : Nat) ({ cls := "java/lang/RuntimeException", name := "<init>", desc := "(Ljava/lang/String;)V" } : Jvm.MethodName)) ∈ lw_all := lw_g (lw_at lw_m2 107 rfl) rfl
theorem q493 : (Jvm.Cond.lays "java/lang/IllegalArgumentException" "java/lang/Throwable" "depth" "I") ∈ lw_all := lw_g (lw_at lw_m2 125 rfl) rfl
theorem q496 : (Jvm.Cond.superclass "java/lang/IllegalArgumentException" "java/lang/RuntimeException") ∈ lw_all := lw_g (lw_at lw_m2 128 rfl) rfl
theorem q1009 : (Jvm.Cond.selects "java/lang/IllegalArgumentException" ({ cls := "java/lang/Object", name := "getClass", desc := "()Ljava/lang/Class;" } : Jvm.MethodName) ({ cls := "java/lang/Object", name := "getClass", desc := "()Ljava/lang/Class;" } : Jvm.MethodName)) ∈ lw_all := lw_g (lw_at lw_m4 161 rfl) rfl
theorem q1754 : (Jvm.Cond.instanceMethod ({ cls := "java/lang/IllegalArgumentException", name := "<init>", desc := "()V" } : Jvm.MethodName)) ∈ lw_all := lw_g (lw_at lw_m7 186 rfl) rfl
theorem q1755 : (Jvm.Cond.code ({ cls := "java/lang/IllegalArgumentException", name := "<init>", desc := "()V" } : Jvm.MethodName) prog_26_method_1_code (1 : Nat) (Option.none : Option Jvm.ClassFile.FieldType)) ∈ lw_all := lw_g (lw_at lw_m7 187 rfl) rfl
theorem q1756 : (Jvm.Cond.methodLink "java/lang/IllegalArgumentException" (1 : Nat) ({ cls := "java/lang/RuntimeException", name := "<init>", desc := "()V" } : Jvm.MethodName)) ∈ lw_all := lw_g (lw_at lw_m7 188 rfl) rfl
theorem q3259 : (Jvm.Cond.castable "java/lang/IllegalArgumentException" "java/lang/Object") ∈ lw_tbl := lw_at lw_m14 11 rfl
theorem in_J6 : ∀ w ∈ wsJ60, w ∈ lw_all := lw_in wsJ60 [217, 219, 221, 223, 225, 493] (by decide +kernel) (by decide +kernel)
/-! java/lang/AbstractStringBuilder -/
set_option maxRecDepth 100000
def RJ7 : String := "java/lang/AbstractStringBuilder"
abbrev cJ7_init : ByteArray := prog_19_method_2_code
def yJ7_init : MethodName := ⟨RJ7, "<init>", "(I)V"⟩
def dkwJ7_init_1 : List UInt8 := [167, 0, 16, 42, 27, 184, 0, 26, 181, 0, 15, 42, 4, 181, 0, 22, 177]
abbrev dktJ7_init_1 : List UInt8 := dkwJ7_init_1 ++ []
def dkwJ7_init_0 : List UInt8 := [42, 183, 0, 3, 178, 0, 18, 153, 0, 18, 42, 27, 188, 8, 181, 0, 15, 42, 3, 181, 0, 22]
abbrev dktJ7_init_0 : List UInt8 := dkwJ7_init_0 ++ dktJ7_init_1
theorem dksJ7_init_0 : cJ7_init.data.toList.drop 0 = dktJ7_init_0 := by decide +kernel
theorem dksJ7_init_1 : cJ7_init.data.toList.drop 22 = dktJ7_init_1 := dk_seg dksJ7_init_0 22 rfl rfl
theorem dJ7_init_0 : decode cJ7_init 0 = .ok (.aload_n 0, 1) := dk_42 (dk_at dksJ7_init_0 0 rfl rfl)
theorem dJ7_init_1 : decode cJ7_init 1 = .ok (.invokespecial 3, 3) := dk_183 0 3 (dk_at dksJ7_init_0 1 rfl rfl)
theorem dJ7_init_4 : decode cJ7_init 4 = .ok (.getstatic 18, 3) := dk_178 0 18 (dk_at dksJ7_init_0 4 rfl rfl)
theorem dJ7_init_7 : decode cJ7_init 7 = .ok (.ifCond .eq 18, 3) := dk_153 0 18 (dk_at dksJ7_init_0 7 rfl rfl)
theorem dJ7_init_10 : decode cJ7_init 10 = .ok (.aload_n 0, 1) := dk_42 (dk_at dksJ7_init_0 10 rfl rfl)
theorem dJ7_init_11 : decode cJ7_init 11 = .ok (.iload_n 1, 1) := dk_27 (dk_at dksJ7_init_0 11 rfl rfl)
theorem dJ7_init_12 : decode cJ7_init 12 = .ok (.newarray .byte, 2) := dk_188_8 (dk_at dksJ7_init_0 12 rfl rfl)
theorem dJ7_init_14 : decode cJ7_init 14 = .ok (.putfield 15, 3) := dk_181 0 15 (dk_at dksJ7_init_0 14 rfl rfl)
theorem dJ7_init_17 : decode cJ7_init 17 = .ok (.aload_n 0, 1) := dk_42 (dk_at dksJ7_init_0 17 rfl rfl)
theorem dJ7_init_18 : decode cJ7_init 18 = .ok (.iconst 0, 1) := dk_3 (dk_at dksJ7_init_0 18 rfl rfl)
theorem dJ7_init_19 : decode cJ7_init 19 = .ok (.putfield 22, 3) := dk_181 0 22 (dk_at dksJ7_init_0 19 rfl rfl)
theorem dJ7_init_22 : decode cJ7_init 22 = .ok (.goto 16, 3) := dk_167 0 16 (dk_at dksJ7_init_1 0 rfl rfl)
theorem dJ7_init_25 : decode cJ7_init 25 = .ok (.aload_n 0, 1) := dk_42 (dk_at dksJ7_init_1 3 rfl rfl)
theorem dJ7_init_26 : decode cJ7_init 26 = .ok (.iload_n 1, 1) := dk_27 (dk_at dksJ7_init_1 4 rfl rfl)
theorem dJ7_init_27 : decode cJ7_init 27 = .ok (.invokestatic 26, 3) := dk_184 0 26 (dk_at dksJ7_init_1 5 rfl rfl)
theorem dJ7_init_30 : decode cJ7_init 30 = .ok (.putfield 15, 3) := dk_181 0 15 (dk_at dksJ7_init_1 8 rfl rfl)
theorem dJ7_init_33 : decode cJ7_init 33 = .ok (.aload_n 0, 1) := dk_42 (dk_at dksJ7_init_1 11 rfl rfl)
theorem dJ7_init_34 : decode cJ7_init 34 = .ok (.iconst 1, 1) := dk_4 (dk_at dksJ7_init_1 12 rfl rfl)
theorem dJ7_init_35 : decode cJ7_init 35 = .ok (.putfield 22, 3) := dk_181 0 22 (dk_at dksJ7_init_1 13 rfl rfl)
theorem dJ7_init_38 : decode cJ7_init 38 = .ok (.return_, 1) := dk_177 (dk_at dksJ7_init_1 16 rfl rfl)
abbrev cJ7_append : ByteArray := prog_19_method_22_code
def yJ7_append : MethodName := ⟨RJ7, "append", "(Ljava/lang/String;)Ljava/lang/AbstractStringBuilder;"⟩
def dkwJ7_append_1 : List UInt8 := [42, 42, 180, 0, 79, 43, 182, 0, 208, 42, 89, 180, 0, 79, 28, 96, 181, 0, 79, 42, 176]
abbrev dktJ7_append_1 : List UInt8 := dkwJ7_append_1 ++ []
def dkwJ7_append_0 : List UInt8 := [43, 199, 0, 8, 42, 182, 0, 204, 176, 43, 182, 0, 32, 61, 42, 42, 180, 0, 79, 28, 96, 182, 0, 100]
abbrev dktJ7_append_0 : List UInt8 := dkwJ7_append_0 ++ dktJ7_append_1
theorem dksJ7_append_0 : cJ7_append.data.toList.drop 0 = dktJ7_append_0 := by decide +kernel
theorem dksJ7_append_1 : cJ7_append.data.toList.drop 24 = dktJ7_append_1 := dk_seg dksJ7_append_0 24 rfl rfl
theorem dJ7_append_0 : decode cJ7_append 0 = .ok (.aload_n 1, 1) := dk_43 (dk_at dksJ7_append_0 0 rfl rfl)
theorem dJ7_append_1 : decode cJ7_append 1 = .ok (.ifnonnull 8, 3) := dk_199 0 8 (dk_at dksJ7_append_0 1 rfl rfl)
theorem dJ7_append_4 : decode cJ7_append 4 = .ok (.aload_n 0, 1) := dk_42 (dk_at dksJ7_append_0 4 rfl rfl)
theorem dJ7_append_5 : decode cJ7_append 5 = .ok (.invokevirtual 204, 3) := dk_182 0 204 (dk_at dksJ7_append_0 5 rfl rfl)
theorem dJ7_append_8 : decode cJ7_append 8 = .ok (.areturn, 1) := dk_176 (dk_at dksJ7_append_0 8 rfl rfl)
theorem dJ7_append_9 : decode cJ7_append 9 = .ok (.aload_n 1, 1) := dk_43 (dk_at dksJ7_append_0 9 rfl rfl)
theorem dJ7_append_10 : decode cJ7_append 10 = .ok (.invokevirtual 32, 3) := dk_182 0 32 (dk_at dksJ7_append_0 10 rfl rfl)
theorem dJ7_append_13 : decode cJ7_append 13 = .ok (.istore_n 2, 1) := dk_61 (dk_at dksJ7_append_0 13 rfl rfl)
theorem dJ7_append_14 : decode cJ7_append 14 = .ok (.aload_n 0, 1) := dk_42 (dk_at dksJ7_append_0 14 rfl rfl)
theorem dJ7_append_15 : decode cJ7_append 15 = .ok (.aload_n 0, 1) := dk_42 (dk_at dksJ7_append_0 15 rfl rfl)
theorem dJ7_append_16 : decode cJ7_append 16 = .ok (.getfield 79, 3) := dk_180 0 79 (dk_at dksJ7_append_0 16 rfl rfl)
theorem dJ7_append_19 : decode cJ7_append 19 = .ok (.iload_n 2, 1) := dk_28 (dk_at dksJ7_append_0 19 rfl rfl)
theorem dJ7_append_20 : decode cJ7_append 20 = .ok (.iadd, 1) := dk_96 (dk_at dksJ7_append_0 20 rfl rfl)
theorem dJ7_append_21 : decode cJ7_append 21 = .ok (.invokevirtual 100, 3) := dk_182 0 100 (dk_at dksJ7_append_0 21 rfl rfl)
theorem dJ7_append_24 : decode cJ7_append 24 = .ok (.aload_n 0, 1) := dk_42 (dk_at dksJ7_append_1 0 rfl rfl)
theorem dJ7_append_25 : decode cJ7_append 25 = .ok (.aload_n 0, 1) := dk_42 (dk_at dksJ7_append_1 1 rfl rfl)
theorem dJ7_append_26 : decode cJ7_append 26 = .ok (.getfield 79, 3) := dk_180 0 79 (dk_at dksJ7_append_1 2 rfl rfl)
theorem dJ7_append_29 : decode cJ7_append 29 = .ok (.aload_n 1, 1) := dk_43 (dk_at dksJ7_append_1 5 rfl rfl)
theorem dJ7_append_30 : decode cJ7_append 30 = .ok (.invokevirtual 208, 3) := dk_182 0 208 (dk_at dksJ7_append_1 6 rfl rfl)
theorem dJ7_append_33 : decode cJ7_append 33 = .ok (.aload_n 0, 1) := dk_42 (dk_at dksJ7_append_1 9 rfl rfl)
theorem dJ7_append_34 : decode cJ7_append 34 = .ok (.dup, 1) := dk_89 (dk_at dksJ7_append_1 10 rfl rfl)
theorem dJ7_append_35 : decode cJ7_append 35 = .ok (.getfield 79, 3) := dk_180 0 79 (dk_at dksJ7_append_1 11 rfl rfl)
theorem dJ7_append_38 : decode cJ7_append 38 = .ok (.iload_n 2, 1) := dk_28 (dk_at dksJ7_append_1 14 rfl rfl)
theorem dJ7_append_39 : decode cJ7_append 39 = .ok (.iadd, 1) := dk_96 (dk_at dksJ7_append_1 15 rfl rfl)
theorem dJ7_append_40 : decode cJ7_append 40 = .ok (.putfield 79, 3) := dk_181 0 79 (dk_at dksJ7_append_1 16 rfl rfl)
theorem dJ7_append_43 : decode cJ7_append 43 = .ok (.aload_n 0, 1) := dk_42 (dk_at dksJ7_append_1 19 rfl rfl)
theorem dJ7_append_44 : decode cJ7_append 44 = .ok (.areturn, 1) := dk_176 (dk_at dksJ7_append_1 20 rfl rfl)
abbrev cJ7_appendNull : ByteArray := prog_19_method_26_code
def yJ7_appendNull : MethodName := ⟨RJ7, "appendNull", "()Ljava/lang/AbstractStringBuilder;"⟩
def dkwJ7_appendNull_3 : List UInt8 := [184, 0, 226, 60, 42, 27, 181, 0, 79, 42, 176]
abbrev dktJ7_appendNull_3 : List UInt8 := dkwJ7_appendNull_3 ++ []
def dkwJ7_appendNull_2 : List UInt8 := [16, 108, 84, 44, 27, 132, 1, 1, 16, 108, 84, 167, 0, 17, 44, 27, 16, 110, 16, 117, 16, 108, 16, 108]
abbrev dktJ7_appendNull_2 : List UInt8 := dkwJ7_appendNull_2 ++ dktJ7_appendNull_3
def dkwJ7_appendNull_1 : List UInt8 := [153, 0, 38, 44, 27, 132, 1, 1, 16, 110, 84, 44, 27, 132, 1, 1, 16, 117, 84, 44, 27, 132, 1, 1]
abbrev dktJ7_appendNull_1 : List UInt8 := dkwJ7_appendNull_1 ++ dktJ7_appendNull_2
def dkwJ7_appendNull_0 : List UInt8 := [42, 42, 180, 0, 79, 7, 96, 182, 0, 100, 42, 180, 0, 79, 60, 42, 180, 0, 15, 77, 42, 182, 0, 83]
abbrev dktJ7_appendNull_0 : List UInt8 := dkwJ7_appendNull_0 ++ dktJ7_appendNull_1
theorem dksJ7_appendNull_0 : cJ7_appendNull.data.toList.drop 0 = dktJ7_appendNull_0 := by decide +kernel
theorem dksJ7_appendNull_1 : cJ7_appendNull.data.toList.drop 24 = dktJ7_appendNull_1 := dk_seg dksJ7_appendNull_0 24 rfl rfl
theorem dksJ7_appendNull_2 : cJ7_appendNull.data.toList.drop 48 = dktJ7_appendNull_2 := dk_seg dksJ7_appendNull_1 24 rfl rfl
theorem dksJ7_appendNull_3 : cJ7_appendNull.data.toList.drop 72 = dktJ7_appendNull_3 := dk_seg dksJ7_appendNull_2 24 rfl rfl
theorem dJ7_appendNull_0 : decode cJ7_appendNull 0 = .ok (.aload_n 0, 1) := dk_42 (dk_at dksJ7_appendNull_0 0 rfl rfl)
theorem dJ7_appendNull_1 : decode cJ7_appendNull 1 = .ok (.aload_n 0, 1) := dk_42 (dk_at dksJ7_appendNull_0 1 rfl rfl)
theorem dJ7_appendNull_2 : decode cJ7_appendNull 2 = .ok (.getfield 79, 3) := dk_180 0 79 (dk_at dksJ7_appendNull_0 2 rfl rfl)
theorem dJ7_appendNull_5 : decode cJ7_appendNull 5 = .ok (.iconst 4, 1) := dk_7 (dk_at dksJ7_appendNull_0 5 rfl rfl)
theorem dJ7_appendNull_6 : decode cJ7_appendNull 6 = .ok (.iadd, 1) := dk_96 (dk_at dksJ7_appendNull_0 6 rfl rfl)
theorem dJ7_appendNull_7 : decode cJ7_appendNull 7 = .ok (.invokevirtual 100, 3) := dk_182 0 100 (dk_at dksJ7_appendNull_0 7 rfl rfl)
theorem dJ7_appendNull_10 : decode cJ7_appendNull 10 = .ok (.aload_n 0, 1) := dk_42 (dk_at dksJ7_appendNull_0 10 rfl rfl)
theorem dJ7_appendNull_11 : decode cJ7_appendNull 11 = .ok (.getfield 79, 3) := dk_180 0 79 (dk_at dksJ7_appendNull_0 11 rfl rfl)
theorem dJ7_appendNull_14 : decode cJ7_appendNull 14 = .ok (.istore_n 1, 1) := dk_60 (dk_at dksJ7_appendNull_0 14 rfl rfl)
theorem dJ7_appendNull_15 : decode cJ7_appendNull 15 = .ok (.aload_n 0, 1) := dk_42 (dk_at dksJ7_appendNull_0 15 rfl rfl)
theorem dJ7_appendNull_16 : decode cJ7_appendNull 16 = .ok (.getfield 15, 3) := dk_180 0 15 (dk_at dksJ7_appendNull_0 16 rfl rfl)
theorem dJ7_appendNull_19 : decode cJ7_appendNull 19 = .ok (.astore_n 2, 1) := dk_77 (dk_at dksJ7_appendNull_0 19 rfl rfl)
theorem dJ7_appendNull_20 : decode cJ7_appendNull 20 = .ok (.aload_n 0, 1) := dk_42 (dk_at dksJ7_appendNull_0 20 rfl rfl)
theorem dJ7_appendNull_21 : decode cJ7_appendNull 21 = .ok (.invokevirtual 83, 3) := dk_182 0 83 (dk_at dksJ7_appendNull_0 21 rfl rfl)
theorem dJ7_appendNull_24 : decode cJ7_appendNull 24 = .ok (.ifCond .eq 38, 3) := dk_153 0 38 (dk_at dksJ7_appendNull_1 0 rfl rfl)
theorem dJ7_appendNull_27 : decode cJ7_appendNull 27 = .ok (.aload_n 2, 1) := dk_44 (dk_at dksJ7_appendNull_1 3 rfl rfl)
theorem dJ7_appendNull_28 : decode cJ7_appendNull 28 = .ok (.iload_n 1, 1) := dk_27 (dk_at dksJ7_appendNull_1 4 rfl rfl)
theorem dJ7_appendNull_29 : decode cJ7_appendNull 29 = .ok (.iinc 1 1, 3) := dk_132 1 1 (dk_at dksJ7_appendNull_1 5 rfl rfl)
theorem dJ7_appendNull_32 : decode cJ7_appendNull 32 = .ok (.bipush 110, 2) := dk_16 110 (dk_at dksJ7_appendNull_1 8 rfl rfl)
theorem dJ7_appendNull_34 : decode cJ7_appendNull 34 = .ok (.bastore, 1) := dk_84 (dk_at dksJ7_appendNull_1 10 rfl rfl)
theorem dJ7_appendNull_35 : decode cJ7_appendNull 35 = .ok (.aload_n 2, 1) := dk_44 (dk_at dksJ7_appendNull_1 11 rfl rfl)
theorem dJ7_appendNull_36 : decode cJ7_appendNull 36 = .ok (.iload_n 1, 1) := dk_27 (dk_at dksJ7_appendNull_1 12 rfl rfl)
theorem dJ7_appendNull_37 : decode cJ7_appendNull 37 = .ok (.iinc 1 1, 3) := dk_132 1 1 (dk_at dksJ7_appendNull_1 13 rfl rfl)
theorem dJ7_appendNull_40 : decode cJ7_appendNull 40 = .ok (.bipush 117, 2) := dk_16 117 (dk_at dksJ7_appendNull_1 16 rfl rfl)
theorem dJ7_appendNull_42 : decode cJ7_appendNull 42 = .ok (.bastore, 1) := dk_84 (dk_at dksJ7_appendNull_1 18 rfl rfl)
theorem dJ7_appendNull_43 : decode cJ7_appendNull 43 = .ok (.aload_n 2, 1) := dk_44 (dk_at dksJ7_appendNull_1 19 rfl rfl)
theorem dJ7_appendNull_44 : decode cJ7_appendNull 44 = .ok (.iload_n 1, 1) := dk_27 (dk_at dksJ7_appendNull_1 20 rfl rfl)
theorem dJ7_appendNull_45 : decode cJ7_appendNull 45 = .ok (.iinc 1 1, 3) := dk_132 1 1 (dk_at dksJ7_appendNull_1 21 rfl rfl)
theorem dJ7_appendNull_48 : decode cJ7_appendNull 48 = .ok (.bipush 108, 2) := dk_16 108 (dk_at dksJ7_appendNull_2 0 rfl rfl)
theorem dJ7_appendNull_50 : decode cJ7_appendNull 50 = .ok (.bastore, 1) := dk_84 (dk_at dksJ7_appendNull_2 2 rfl rfl)
theorem dJ7_appendNull_51 : decode cJ7_appendNull 51 = .ok (.aload_n 2, 1) := dk_44 (dk_at dksJ7_appendNull_2 3 rfl rfl)
theorem dJ7_appendNull_52 : decode cJ7_appendNull 52 = .ok (.iload_n 1, 1) := dk_27 (dk_at dksJ7_appendNull_2 4 rfl rfl)
theorem dJ7_appendNull_53 : decode cJ7_appendNull 53 = .ok (.iinc 1 1, 3) := dk_132 1 1 (dk_at dksJ7_appendNull_2 5 rfl rfl)
theorem dJ7_appendNull_56 : decode cJ7_appendNull 56 = .ok (.bipush 108, 2) := dk_16 108 (dk_at dksJ7_appendNull_2 8 rfl rfl)
theorem dJ7_appendNull_58 : decode cJ7_appendNull 58 = .ok (.bastore, 1) := dk_84 (dk_at dksJ7_appendNull_2 10 rfl rfl)
theorem dJ7_appendNull_59 : decode cJ7_appendNull 59 = .ok (.goto 17, 3) := dk_167 0 17 (dk_at dksJ7_appendNull_2 11 rfl rfl)
theorem dJ7_appendNull_62 : decode cJ7_appendNull 62 = .ok (.aload_n 2, 1) := dk_44 (dk_at dksJ7_appendNull_2 14 rfl rfl)
theorem dJ7_appendNull_63 : decode cJ7_appendNull 63 = .ok (.iload_n 1, 1) := dk_27 (dk_at dksJ7_appendNull_2 15 rfl rfl)
theorem dJ7_appendNull_64 : decode cJ7_appendNull 64 = .ok (.bipush 110, 2) := dk_16 110 (dk_at dksJ7_appendNull_2 16 rfl rfl)
theorem dJ7_appendNull_66 : decode cJ7_appendNull 66 = .ok (.bipush 117, 2) := dk_16 117 (dk_at dksJ7_appendNull_2 18 rfl rfl)
theorem dJ7_appendNull_68 : decode cJ7_appendNull 68 = .ok (.bipush 108, 2) := dk_16 108 (dk_at dksJ7_appendNull_2 20 rfl rfl)
theorem dJ7_appendNull_70 : decode cJ7_appendNull 70 = .ok (.bipush 108, 2) := dk_16 108 (dk_at dksJ7_appendNull_2 22 rfl rfl)
theorem dJ7_appendNull_72 : decode cJ7_appendNull 72 = .ok (.invokestatic 226, 3) := dk_184 0 226 (dk_at dksJ7_appendNull_3 0 rfl rfl)
theorem dJ7_appendNull_75 : decode cJ7_appendNull 75 = .ok (.istore_n 1, 1) := dk_60 (dk_at dksJ7_appendNull_3 3 rfl rfl)
theorem dJ7_appendNull_76 : decode cJ7_appendNull 76 = .ok (.aload_n 0, 1) := dk_42 (dk_at dksJ7_appendNull_3 4 rfl rfl)
theorem dJ7_appendNull_77 : decode cJ7_appendNull 77 = .ok (.iload_n 1, 1) := dk_27 (dk_at dksJ7_appendNull_3 5 rfl rfl)
theorem dJ7_appendNull_78 : decode cJ7_appendNull 78 = .ok (.putfield 79, 3) := dk_181 0 79 (dk_at dksJ7_appendNull_3 6 rfl rfl)
theorem dJ7_appendNull_81 : decode cJ7_appendNull 81 = .ok (.aload_n 0, 1) := dk_42 (dk_at dksJ7_appendNull_3 9 rfl rfl)
theorem dJ7_appendNull_82 : decode cJ7_appendNull 82 = .ok (.areturn, 1) := dk_176 (dk_at dksJ7_appendNull_3 10 rfl rfl)
abbrev cJ7_ensureCapacityInternal : ByteArray := prog_19_method_9_code
def yJ7_ensureCapacityInternal : MethodName := ⟨RJ7, "ensureCapacityInternal", "(I)V"⟩
def dkwJ7_ensureCapacityInternal_1 : List UInt8 := [182, 0, 104, 42, 180, 0, 22, 120, 184, 0, 108, 181, 0, 15, 177]
abbrev dktJ7_ensureCapacityInternal_1 : List UInt8 := dkwJ7_ensureCapacityInternal_1 ++ []
def dkwJ7_ensureCapacityInternal_0 : List UInt8 := [42, 180, 0, 15, 190, 42, 180, 0, 22, 122, 61, 27, 28, 100, 158, 0, 24, 42, 42, 180, 0, 15, 42, 27]
abbrev dktJ7_ensureCapacityInternal_0 : List UInt8 := dkwJ7_ensureCapacityInternal_0 ++ dktJ7_ensureCapacityInternal_1
theorem dksJ7_ensureCapacityInternal_0 : cJ7_ensureCapacityInternal.data.toList.drop 0 = dktJ7_ensureCapacityInternal_0 := by decide +kernel
theorem dksJ7_ensureCapacityInternal_1 : cJ7_ensureCapacityInternal.data.toList.drop 24 = dktJ7_ensureCapacityInternal_1 := dk_seg dksJ7_ensureCapacityInternal_0 24 rfl rfl
theorem dJ7_ensureCapacityInternal_0 : decode cJ7_ensureCapacityInternal 0 = .ok (.aload_n 0, 1) := dk_42 (dk_at dksJ7_ensureCapacityInternal_0 0 rfl rfl)
theorem dJ7_ensureCapacityInternal_1 : decode cJ7_ensureCapacityInternal 1 = .ok (.getfield 15, 3) := dk_180 0 15 (dk_at dksJ7_ensureCapacityInternal_0 1 rfl rfl)
theorem dJ7_ensureCapacityInternal_4 : decode cJ7_ensureCapacityInternal 4 = .ok (.arraylength, 1) := dk_190 (dk_at dksJ7_ensureCapacityInternal_0 4 rfl rfl)
theorem dJ7_ensureCapacityInternal_5 : decode cJ7_ensureCapacityInternal 5 = .ok (.aload_n 0, 1) := dk_42 (dk_at dksJ7_ensureCapacityInternal_0 5 rfl rfl)
theorem dJ7_ensureCapacityInternal_6 : decode cJ7_ensureCapacityInternal 6 = .ok (.getfield 22, 3) := dk_180 0 22 (dk_at dksJ7_ensureCapacityInternal_0 6 rfl rfl)
theorem dJ7_ensureCapacityInternal_9 : decode cJ7_ensureCapacityInternal 9 = .ok (.ishr, 1) := dk_122 (dk_at dksJ7_ensureCapacityInternal_0 9 rfl rfl)
theorem dJ7_ensureCapacityInternal_10 : decode cJ7_ensureCapacityInternal 10 = .ok (.istore_n 2, 1) := dk_61 (dk_at dksJ7_ensureCapacityInternal_0 10 rfl rfl)
theorem dJ7_ensureCapacityInternal_11 : decode cJ7_ensureCapacityInternal 11 = .ok (.iload_n 1, 1) := dk_27 (dk_at dksJ7_ensureCapacityInternal_0 11 rfl rfl)
theorem dJ7_ensureCapacityInternal_12 : decode cJ7_ensureCapacityInternal 12 = .ok (.iload_n 2, 1) := dk_28 (dk_at dksJ7_ensureCapacityInternal_0 12 rfl rfl)
theorem dJ7_ensureCapacityInternal_13 : decode cJ7_ensureCapacityInternal 13 = .ok (.isub, 1) := dk_100 (dk_at dksJ7_ensureCapacityInternal_0 13 rfl rfl)
theorem dJ7_ensureCapacityInternal_14 : decode cJ7_ensureCapacityInternal 14 = .ok (.ifCond .le 24, 3) := dk_158 0 24 (dk_at dksJ7_ensureCapacityInternal_0 14 rfl rfl)
theorem dJ7_ensureCapacityInternal_17 : decode cJ7_ensureCapacityInternal 17 = .ok (.aload_n 0, 1) := dk_42 (dk_at dksJ7_ensureCapacityInternal_0 17 rfl rfl)
theorem dJ7_ensureCapacityInternal_18 : decode cJ7_ensureCapacityInternal 18 = .ok (.aload_n 0, 1) := dk_42 (dk_at dksJ7_ensureCapacityInternal_0 18 rfl rfl)
theorem dJ7_ensureCapacityInternal_19 : decode cJ7_ensureCapacityInternal 19 = .ok (.getfield 15, 3) := dk_180 0 15 (dk_at dksJ7_ensureCapacityInternal_0 19 rfl rfl)
theorem dJ7_ensureCapacityInternal_22 : decode cJ7_ensureCapacityInternal 22 = .ok (.aload_n 0, 1) := dk_42 (dk_at dksJ7_ensureCapacityInternal_0 22 rfl rfl)
theorem dJ7_ensureCapacityInternal_23 : decode cJ7_ensureCapacityInternal 23 = .ok (.iload_n 1, 1) := dk_27 (dk_at dksJ7_ensureCapacityInternal_0 23 rfl rfl)
theorem dJ7_ensureCapacityInternal_24 : decode cJ7_ensureCapacityInternal 24 = .ok (.invokevirtual 104, 3) := dk_182 0 104 (dk_at dksJ7_ensureCapacityInternal_1 0 rfl rfl)
theorem dJ7_ensureCapacityInternal_27 : decode cJ7_ensureCapacityInternal 27 = .ok (.aload_n 0, 1) := dk_42 (dk_at dksJ7_ensureCapacityInternal_1 3 rfl rfl)
theorem dJ7_ensureCapacityInternal_28 : decode cJ7_ensureCapacityInternal 28 = .ok (.getfield 22, 3) := dk_180 0 22 (dk_at dksJ7_ensureCapacityInternal_1 4 rfl rfl)
theorem dJ7_ensureCapacityInternal_31 : decode cJ7_ensureCapacityInternal 31 = .ok (.ishl, 1) := dk_120 (dk_at dksJ7_ensureCapacityInternal_1 7 rfl rfl)
theorem dJ7_ensureCapacityInternal_32 : decode cJ7_ensureCapacityInternal 32 = .ok (.invokestatic 108, 3) := dk_184 0 108 (dk_at dksJ7_ensureCapacityInternal_1 8 rfl rfl)
theorem dJ7_ensureCapacityInternal_35 : decode cJ7_ensureCapacityInternal 35 = .ok (.putfield 15, 3) := dk_181 0 15 (dk_at dksJ7_ensureCapacityInternal_1 11 rfl rfl)
theorem dJ7_ensureCapacityInternal_38 : decode cJ7_ensureCapacityInternal 38 = .ok (.return_, 1) := dk_177 (dk_at dksJ7_ensureCapacityInternal_1 14 rfl rfl)
abbrev cJ7_newCapacity : ByteArray := prog_19_method_10_code
def yJ7_newCapacity : MethodName := ⟨RJ7, "newCapacity", "(I)I"⟩
def dkwJ7_newCapacity_2 : List UInt8 := [183, 0, 124, 191, 21, 5, 42, 180, 0, 22, 122, 172]
abbrev dktJ7_newCapacity_2 : List UInt8 := dkwJ7_newCapacity_2 ++ []
def dkwJ7_newCapacity_1 : List UInt8 := [180, 0, 22, 120, 96, 184, 0, 114, 54, 5, 21, 5, 18, 39, 160, 0, 13, 187, 0, 120, 89, 18, 122]
abbrev dktJ7_newCapacity_1 : List UInt8 := dkwJ7_newCapacity_1 ++ dktJ7_newCapacity_2
def dkwJ7_newCapacity_0 : List UInt8 := [42, 180, 0, 15, 190, 61, 27, 42, 180, 0, 22, 120, 62, 29, 28, 100, 54, 4, 28, 21, 4, 28, 5, 42]
abbrev dktJ7_newCapacity_0 : List UInt8 := dkwJ7_newCapacity_0 ++ dktJ7_newCapacity_1
theorem dksJ7_newCapacity_0 : cJ7_newCapacity.data.toList.drop 0 = dktJ7_newCapacity_0 := by decide +kernel
theorem dksJ7_newCapacity_1 : cJ7_newCapacity.data.toList.drop 24 = dktJ7_newCapacity_1 := dk_seg dksJ7_newCapacity_0 24 rfl rfl
theorem dksJ7_newCapacity_2 : cJ7_newCapacity.data.toList.drop 47 = dktJ7_newCapacity_2 := dk_seg dksJ7_newCapacity_1 23 rfl rfl
theorem dJ7_newCapacity_0 : decode cJ7_newCapacity 0 = .ok (.aload_n 0, 1) := dk_42 (dk_at dksJ7_newCapacity_0 0 rfl rfl)
theorem dJ7_newCapacity_1 : decode cJ7_newCapacity 1 = .ok (.getfield 15, 3) := dk_180 0 15 (dk_at dksJ7_newCapacity_0 1 rfl rfl)
theorem dJ7_newCapacity_4 : decode cJ7_newCapacity 4 = .ok (.arraylength, 1) := dk_190 (dk_at dksJ7_newCapacity_0 4 rfl rfl)
theorem dJ7_newCapacity_5 : decode cJ7_newCapacity 5 = .ok (.istore_n 2, 1) := dk_61 (dk_at dksJ7_newCapacity_0 5 rfl rfl)
theorem dJ7_newCapacity_6 : decode cJ7_newCapacity 6 = .ok (.iload_n 1, 1) := dk_27 (dk_at dksJ7_newCapacity_0 6 rfl rfl)
theorem dJ7_newCapacity_7 : decode cJ7_newCapacity 7 = .ok (.aload_n 0, 1) := dk_42 (dk_at dksJ7_newCapacity_0 7 rfl rfl)
theorem dJ7_newCapacity_8 : decode cJ7_newCapacity 8 = .ok (.getfield 22, 3) := dk_180 0 22 (dk_at dksJ7_newCapacity_0 8 rfl rfl)
theorem dJ7_newCapacity_11 : decode cJ7_newCapacity 11 = .ok (.ishl, 1) := dk_120 (dk_at dksJ7_newCapacity_0 11 rfl rfl)
theorem dJ7_newCapacity_12 : decode cJ7_newCapacity 12 = .ok (.istore_n 3, 1) := dk_62 (dk_at dksJ7_newCapacity_0 12 rfl rfl)
theorem dJ7_newCapacity_13 : decode cJ7_newCapacity 13 = .ok (.iload_n 3, 1) := dk_29 (dk_at dksJ7_newCapacity_0 13 rfl rfl)
theorem dJ7_newCapacity_14 : decode cJ7_newCapacity 14 = .ok (.iload_n 2, 1) := dk_28 (dk_at dksJ7_newCapacity_0 14 rfl rfl)
theorem dJ7_newCapacity_15 : decode cJ7_newCapacity 15 = .ok (.isub, 1) := dk_100 (dk_at dksJ7_newCapacity_0 15 rfl rfl)
theorem dJ7_newCapacity_16 : decode cJ7_newCapacity 16 = .ok (.istore 4, 2) := dk_54 4 (dk_at dksJ7_newCapacity_0 16 rfl rfl)
theorem dJ7_newCapacity_18 : decode cJ7_newCapacity 18 = .ok (.iload_n 2, 1) := dk_28 (dk_at dksJ7_newCapacity_0 18 rfl rfl)
theorem dJ7_newCapacity_19 : decode cJ7_newCapacity 19 = .ok (.iload 4, 2) := dk_21 4 (dk_at dksJ7_newCapacity_0 19 rfl rfl)
theorem dJ7_newCapacity_21 : decode cJ7_newCapacity 21 = .ok (.iload_n 2, 1) := dk_28 (dk_at dksJ7_newCapacity_0 21 rfl rfl)
theorem dJ7_newCapacity_22 : decode cJ7_newCapacity 22 = .ok (.iconst 2, 1) := dk_5 (dk_at dksJ7_newCapacity_0 22 rfl rfl)
theorem dJ7_newCapacity_23 : decode cJ7_newCapacity 23 = .ok (.aload_n 0, 1) := dk_42 (dk_at dksJ7_newCapacity_0 23 rfl rfl)
theorem dJ7_newCapacity_24 : decode cJ7_newCapacity 24 = .ok (.getfield 22, 3) := dk_180 0 22 (dk_at dksJ7_newCapacity_1 0 rfl rfl)
theorem dJ7_newCapacity_27 : decode cJ7_newCapacity 27 = .ok (.ishl, 1) := dk_120 (dk_at dksJ7_newCapacity_1 3 rfl rfl)
theorem dJ7_newCapacity_28 : decode cJ7_newCapacity 28 = .ok (.iadd, 1) := dk_96 (dk_at dksJ7_newCapacity_1 4 rfl rfl)
theorem dJ7_newCapacity_29 : decode cJ7_newCapacity 29 = .ok (.invokestatic 114, 3) := dk_184 0 114 (dk_at dksJ7_newCapacity_1 5 rfl rfl)
theorem dJ7_newCapacity_32 : decode cJ7_newCapacity 32 = .ok (.istore 5, 2) := dk_54 5 (dk_at dksJ7_newCapacity_1 8 rfl rfl)
theorem dJ7_newCapacity_34 : decode cJ7_newCapacity 34 = .ok (.iload 5, 2) := dk_21 5 (dk_at dksJ7_newCapacity_1 10 rfl rfl)
theorem dJ7_newCapacity_36 : decode cJ7_newCapacity 36 = .ok (.ldc 39, 2) := dk_18 39 (dk_at dksJ7_newCapacity_1 12 rfl rfl)
theorem dJ7_newCapacity_38 : decode cJ7_newCapacity 38 = .ok (.if_icmp .ne 13, 3) := dk_160 0 13 (dk_at dksJ7_newCapacity_1 14 rfl rfl)
theorem dJ7_newCapacity_41 : decode cJ7_newCapacity 41 = .ok (.new 120, 3) := dk_187 0 120 (dk_at dksJ7_newCapacity_1 17 rfl rfl)
theorem dJ7_newCapacity_44 : decode cJ7_newCapacity 44 = .ok (.dup, 1) := dk_89 (dk_at dksJ7_newCapacity_1 20 rfl rfl)
theorem dJ7_newCapacity_45 : decode cJ7_newCapacity 45 = .ok (.ldc 122, 2) := dk_18 122 (dk_at dksJ7_newCapacity_1 21 rfl rfl)
theorem dJ7_newCapacity_47 : decode cJ7_newCapacity 47 = .ok (.invokespecial 124, 3) := dk_183 0 124 (dk_at dksJ7_newCapacity_2 0 rfl rfl)
theorem dJ7_newCapacity_50 : decode cJ7_newCapacity 50 = .ok (.athrow, 1) := dk_191 (dk_at dksJ7_newCapacity_2 3 rfl rfl)
theorem dJ7_newCapacity_51 : decode cJ7_newCapacity 51 = .ok (.iload 5, 2) := dk_21 5 (dk_at dksJ7_newCapacity_2 4 rfl rfl)
theorem dJ7_newCapacity_53 : decode cJ7_newCapacity 53 = .ok (.aload_n 0, 1) := dk_42 (dk_at dksJ7_newCapacity_2 6 rfl rfl)
theorem dJ7_newCapacity_54 : decode cJ7_newCapacity 54 = .ok (.getfield 22, 3) := dk_180 0 22 (dk_at dksJ7_newCapacity_2 7 rfl rfl)
theorem dJ7_newCapacity_57 : decode cJ7_newCapacity 57 = .ok (.ishr, 1) := dk_122 (dk_at dksJ7_newCapacity_2 10 rfl rfl)
theorem dJ7_newCapacity_58 : decode cJ7_newCapacity 58 = .ok (.ireturn, 1) := dk_172 (dk_at dksJ7_newCapacity_2 11 rfl rfl)
abbrev cJ7_isLatin1 : ByteArray := prog_19_method_68_code
def yJ7_isLatin1 : MethodName := ⟨RJ7, "isLatin1", "()Z"⟩
def dkwJ7_isLatin1_0 : List UInt8 := [178, 0, 18, 153, 0, 14, 42, 180, 0, 22, 154, 0, 7, 4, 167, 0, 4, 3, 172]
abbrev dktJ7_isLatin1_0 : List UInt8 := dkwJ7_isLatin1_0 ++ []
theorem dksJ7_isLatin1_0 : cJ7_isLatin1.data.toList.drop 0 = dktJ7_isLatin1_0 := by decide +kernel
theorem dJ7_isLatin1_0 : decode cJ7_isLatin1 0 = .ok (.getstatic 18, 3) := dk_178 0 18 (dk_at dksJ7_isLatin1_0 0 rfl rfl)
theorem dJ7_isLatin1_3 : decode cJ7_isLatin1 3 = .ok (.ifCond .eq 14, 3) := dk_153 0 14 (dk_at dksJ7_isLatin1_0 3 rfl rfl)
theorem dJ7_isLatin1_6 : decode cJ7_isLatin1 6 = .ok (.aload_n 0, 1) := dk_42 (dk_at dksJ7_isLatin1_0 6 rfl rfl)
theorem dJ7_isLatin1_7 : decode cJ7_isLatin1 7 = .ok (.getfield 22, 3) := dk_180 0 22 (dk_at dksJ7_isLatin1_0 7 rfl rfl)
theorem dJ7_isLatin1_10 : decode cJ7_isLatin1 10 = .ok (.ifCond .ne 7, 3) := dk_154 0 7 (dk_at dksJ7_isLatin1_0 10 rfl rfl)
theorem dJ7_isLatin1_13 : decode cJ7_isLatin1 13 = .ok (.iconst 1, 1) := dk_4 (dk_at dksJ7_isLatin1_0 13 rfl rfl)
theorem dJ7_isLatin1_14 : decode cJ7_isLatin1 14 = .ok (.goto 4, 3) := dk_167 0 4 (dk_at dksJ7_isLatin1_0 14 rfl rfl)
theorem dJ7_isLatin1_17 : decode cJ7_isLatin1 17 = .ok (.iconst 0, 1) := dk_3 (dk_at dksJ7_isLatin1_0 17 rfl rfl)
theorem dJ7_isLatin1_18 : decode cJ7_isLatin1 18 = .ok (.ireturn, 1) := dk_172 (dk_at dksJ7_isLatin1_0 18 rfl rfl)
abbrev cJ7_putStringAt : ByteArray := prog_19_method_73_code
def yJ7_putStringAt : MethodName := ⟨RJ7, "putStringAt", "(ILjava/lang/String;)V"⟩
def dkwJ7_putStringAt_0 : List UInt8 := [42, 44, 182, 1, 141, 44, 42, 180, 0, 15, 27, 42, 180, 0, 22, 182, 1, 143, 177]
abbrev dktJ7_putStringAt_0 : List UInt8 := dkwJ7_putStringAt_0 ++ []
theorem dksJ7_putStringAt_0 : cJ7_putStringAt.data.toList.drop 0 = dktJ7_putStringAt_0 := by decide +kernel
theorem dJ7_putStringAt_0 : decode cJ7_putStringAt 0 = .ok (.aload_n 0, 1) := dk_42 (dk_at dksJ7_putStringAt_0 0 rfl rfl)
theorem dJ7_putStringAt_1 : decode cJ7_putStringAt 1 = .ok (.aload_n 2, 1) := dk_44 (dk_at dksJ7_putStringAt_0 1 rfl rfl)
theorem dJ7_putStringAt_2 : decode cJ7_putStringAt 2 = .ok (.invokevirtual 397, 3) := dk_182 1 141 (dk_at dksJ7_putStringAt_0 2 rfl rfl)
theorem dJ7_putStringAt_5 : decode cJ7_putStringAt 5 = .ok (.aload_n 2, 1) := dk_44 (dk_at dksJ7_putStringAt_0 5 rfl rfl)
theorem dJ7_putStringAt_6 : decode cJ7_putStringAt 6 = .ok (.aload_n 0, 1) := dk_42 (dk_at dksJ7_putStringAt_0 6 rfl rfl)
theorem dJ7_putStringAt_7 : decode cJ7_putStringAt 7 = .ok (.getfield 15, 3) := dk_180 0 15 (dk_at dksJ7_putStringAt_0 7 rfl rfl)
theorem dJ7_putStringAt_10 : decode cJ7_putStringAt 10 = .ok (.iload_n 1, 1) := dk_27 (dk_at dksJ7_putStringAt_0 10 rfl rfl)
theorem dJ7_putStringAt_11 : decode cJ7_putStringAt 11 = .ok (.aload_n 0, 1) := dk_42 (dk_at dksJ7_putStringAt_0 11 rfl rfl)
theorem dJ7_putStringAt_12 : decode cJ7_putStringAt 12 = .ok (.getfield 22, 3) := dk_180 0 22 (dk_at dksJ7_putStringAt_0 12 rfl rfl)
theorem dJ7_putStringAt_15 : decode cJ7_putStringAt 15 = .ok (.invokevirtual 399, 3) := dk_182 1 143 (dk_at dksJ7_putStringAt_0 15 rfl rfl)
theorem dJ7_putStringAt_18 : decode cJ7_putStringAt 18 = .ok (.return_, 1) := dk_177 (dk_at dksJ7_putStringAt_0 18 rfl rfl)
abbrev cJ7_inflateIfNeededFor : ByteArray := prog_19_method_71_code
def yJ7_inflateIfNeededFor : MethodName := ⟨RJ7, "inflateIfNeededFor", "(Ljava/lang/String;)V"⟩
def dkwJ7_inflateIfNeededFor_0 : List UInt8 := [178, 0, 18, 153, 0, 18, 42, 180, 0, 22, 43, 182, 0, 40, 159, 0, 7, 42, 182, 0, 195, 177]
abbrev dktJ7_inflateIfNeededFor_0 : List UInt8 := dkwJ7_inflateIfNeededFor_0 ++ []
theorem dksJ7_inflateIfNeededFor_0 : cJ7_inflateIfNeededFor.data.toList.drop 0 = dktJ7_inflateIfNeededFor_0 := by decide +kernel
theorem dJ7_inflateIfNeededFor_0 : decode cJ7_inflateIfNeededFor 0 = .ok (.getstatic 18, 3) := dk_178 0 18 (dk_at dksJ7_inflateIfNeededFor_0 0 rfl rfl)
theorem dJ7_inflateIfNeededFor_3 : decode cJ7_inflateIfNeededFor 3 = .ok (.ifCond .eq 18, 3) := dk_153 0 18 (dk_at dksJ7_inflateIfNeededFor_0 3 rfl rfl)
theorem dJ7_inflateIfNeededFor_6 : decode cJ7_inflateIfNeededFor 6 = .ok (.aload_n 0, 1) := dk_42 (dk_at dksJ7_inflateIfNeededFor_0 6 rfl rfl)
theorem dJ7_inflateIfNeededFor_7 : decode cJ7_inflateIfNeededFor 7 = .ok (.getfield 22, 3) := dk_180 0 22 (dk_at dksJ7_inflateIfNeededFor_0 7 rfl rfl)
theorem dJ7_inflateIfNeededFor_10 : decode cJ7_inflateIfNeededFor 10 = .ok (.aload_n 1, 1) := dk_43 (dk_at dksJ7_inflateIfNeededFor_0 10 rfl rfl)
theorem dJ7_inflateIfNeededFor_11 : decode cJ7_inflateIfNeededFor 11 = .ok (.invokevirtual 40, 3) := dk_182 0 40 (dk_at dksJ7_inflateIfNeededFor_0 11 rfl rfl)
theorem dJ7_inflateIfNeededFor_14 : decode cJ7_inflateIfNeededFor 14 = .ok (.if_icmp .eq 7, 3) := dk_159 0 7 (dk_at dksJ7_inflateIfNeededFor_0 14 rfl rfl)
theorem dJ7_inflateIfNeededFor_17 : decode cJ7_inflateIfNeededFor 17 = .ok (.aload_n 0, 1) := dk_42 (dk_at dksJ7_inflateIfNeededFor_0 17 rfl rfl)
theorem dJ7_inflateIfNeededFor_18 : decode cJ7_inflateIfNeededFor 18 = .ok (.invokevirtual 195, 3) := dk_182 0 195 (dk_at dksJ7_inflateIfNeededFor_0 18 rfl rfl)
theorem dJ7_inflateIfNeededFor_21 : decode cJ7_inflateIfNeededFor 21 = .ok (.return_, 1) := dk_177 (dk_at dksJ7_inflateIfNeededFor_0 21 rfl rfl)
abbrev cJ7_inflate : ByteArray := prog_19_method_11_code
def yJ7_inflate : MethodName := ⟨RJ7, "inflate", "()V"⟩
def dkwJ7_inflate_1 : List UInt8 := [42, 180, 0, 79, 184, 0, 125, 42, 43, 181, 0, 15, 42, 4, 181, 0, 22, 177]
abbrev dktJ7_inflate_1 : List UInt8 := dkwJ7_inflate_1 ++ []
def dkwJ7_inflate_0 : List UInt8 := [42, 182, 0, 83, 154, 0, 4, 177, 42, 180, 0, 15, 190, 184, 0, 26, 76, 42, 180, 0, 15, 3, 43, 3]
abbrev dktJ7_inflate_0 : List UInt8 := dkwJ7_inflate_0 ++ dktJ7_inflate_1
theorem dksJ7_inflate_0 : cJ7_inflate.data.toList.drop 0 = dktJ7_inflate_0 := by decide +kernel
theorem dksJ7_inflate_1 : cJ7_inflate.data.toList.drop 24 = dktJ7_inflate_1 := dk_seg dksJ7_inflate_0 24 rfl rfl
theorem dJ7_inflate_0 : decode cJ7_inflate 0 = .ok (.aload_n 0, 1) := dk_42 (dk_at dksJ7_inflate_0 0 rfl rfl)
theorem dJ7_inflate_1 : decode cJ7_inflate 1 = .ok (.invokevirtual 83, 3) := dk_182 0 83 (dk_at dksJ7_inflate_0 1 rfl rfl)
theorem dJ7_inflate_4 : decode cJ7_inflate 4 = .ok (.ifCond .ne 4, 3) := dk_154 0 4 (dk_at dksJ7_inflate_0 4 rfl rfl)
theorem dJ7_inflate_7 : decode cJ7_inflate 7 = .ok (.return_, 1) := dk_177 (dk_at dksJ7_inflate_0 7 rfl rfl)
theorem dJ7_inflate_8 : decode cJ7_inflate 8 = .ok (.aload_n 0, 1) := dk_42 (dk_at dksJ7_inflate_0 8 rfl rfl)
theorem dJ7_inflate_9 : decode cJ7_inflate 9 = .ok (.getfield 15, 3) := dk_180 0 15 (dk_at dksJ7_inflate_0 9 rfl rfl)
theorem dJ7_inflate_12 : decode cJ7_inflate 12 = .ok (.arraylength, 1) := dk_190 (dk_at dksJ7_inflate_0 12 rfl rfl)
theorem dJ7_inflate_13 : decode cJ7_inflate 13 = .ok (.invokestatic 26, 3) := dk_184 0 26 (dk_at dksJ7_inflate_0 13 rfl rfl)
theorem dJ7_inflate_16 : decode cJ7_inflate 16 = .ok (.astore_n 1, 1) := dk_76 (dk_at dksJ7_inflate_0 16 rfl rfl)
theorem dJ7_inflate_17 : decode cJ7_inflate 17 = .ok (.aload_n 0, 1) := dk_42 (dk_at dksJ7_inflate_0 17 rfl rfl)
theorem dJ7_inflate_18 : decode cJ7_inflate 18 = .ok (.getfield 15, 3) := dk_180 0 15 (dk_at dksJ7_inflate_0 18 rfl rfl)
theorem dJ7_inflate_21 : decode cJ7_inflate 21 = .ok (.iconst 0, 1) := dk_3 (dk_at dksJ7_inflate_0 21 rfl rfl)
theorem dJ7_inflate_22 : decode cJ7_inflate 22 = .ok (.aload_n 1, 1) := dk_43 (dk_at dksJ7_inflate_0 22 rfl rfl)
theorem dJ7_inflate_23 : decode cJ7_inflate 23 = .ok (.iconst 0, 1) := dk_3 (dk_at dksJ7_inflate_0 23 rfl rfl)
theorem dJ7_inflate_24 : decode cJ7_inflate 24 = .ok (.aload_n 0, 1) := dk_42 (dk_at dksJ7_inflate_1 0 rfl rfl)
theorem dJ7_inflate_25 : decode cJ7_inflate 25 = .ok (.getfield 79, 3) := dk_180 0 79 (dk_at dksJ7_inflate_1 1 rfl rfl)
theorem dJ7_inflate_28 : decode cJ7_inflate 28 = .ok (.invokestatic 125, 3) := dk_184 0 125 (dk_at dksJ7_inflate_1 4 rfl rfl)
theorem dJ7_inflate_31 : decode cJ7_inflate 31 = .ok (.aload_n 0, 1) := dk_42 (dk_at dksJ7_inflate_1 7 rfl rfl)
theorem dJ7_inflate_32 : decode cJ7_inflate 32 = .ok (.aload_n 1, 1) := dk_43 (dk_at dksJ7_inflate_1 8 rfl rfl)
theorem dJ7_inflate_33 : decode cJ7_inflate 33 = .ok (.putfield 15, 3) := dk_181 0 15 (dk_at dksJ7_inflate_1 9 rfl rfl)
theorem dJ7_inflate_36 : decode cJ7_inflate 36 = .ok (.aload_n 0, 1) := dk_42 (dk_at dksJ7_inflate_1 12 rfl rfl)
theorem dJ7_inflate_37 : decode cJ7_inflate 37 = .ok (.iconst 1, 1) := dk_4 (dk_at dksJ7_inflate_1 13 rfl rfl)
theorem dJ7_inflate_38 : decode cJ7_inflate 38 = .ok (.putfield 22, 3) := dk_181 0 22 (dk_at dksJ7_inflate_1 14 rfl rfl)
theorem dJ7_inflate_41 : decode cJ7_inflate 41 = .ok (.return_, 1) := dk_177 (dk_at dksJ7_inflate_1 17 rfl rfl)
abbrev cJ7_append_2 : ByteArray := prog_19_method_32_code
def yJ7_append_2 : MethodName := ⟨RJ7, "append", "(I)Ljava/lang/AbstractStringBuilder;"⟩
def dkwJ7_append_2_2 : List UInt8 := [42, 29, 181, 0, 79, 42, 176]
abbrev dktJ7_append_2_2 : List UInt8 := dkwJ7_append_2_2 ++ []
def dkwJ7_append_2_1 : List UInt8 := [27, 29, 42, 180, 0, 15, 184, 0, 248, 87, 167, 0, 14, 27, 28, 29, 42, 180, 0, 15, 184, 0, 251, 87]
abbrev dktJ7_append_2_1 : List UInt8 := dkwJ7_append_2_1 ++ dktJ7_append_2_2
def dkwJ7_append_2_0 : List UInt8 := [42, 180, 0, 79, 61, 28, 27, 184, 0, 245, 96, 62, 42, 29, 182, 0, 100, 42, 182, 0, 83, 153, 0, 16]
abbrev dktJ7_append_2_0 : List UInt8 := dkwJ7_append_2_0 ++ dktJ7_append_2_1
theorem dksJ7_append_2_0 : cJ7_append_2.data.toList.drop 0 = dktJ7_append_2_0 := by decide +kernel
theorem dksJ7_append_2_1 : cJ7_append_2.data.toList.drop 24 = dktJ7_append_2_1 := dk_seg dksJ7_append_2_0 24 rfl rfl
theorem dksJ7_append_2_2 : cJ7_append_2.data.toList.drop 48 = dktJ7_append_2_2 := dk_seg dksJ7_append_2_1 24 rfl rfl
theorem dJ7_append_2_0 : decode cJ7_append_2 0 = .ok (.aload_n 0, 1) := dk_42 (dk_at dksJ7_append_2_0 0 rfl rfl)
theorem dJ7_append_2_1 : decode cJ7_append_2 1 = .ok (.getfield 79, 3) := dk_180 0 79 (dk_at dksJ7_append_2_0 1 rfl rfl)
theorem dJ7_append_2_4 : decode cJ7_append_2 4 = .ok (.istore_n 2, 1) := dk_61 (dk_at dksJ7_append_2_0 4 rfl rfl)
theorem dJ7_append_2_5 : decode cJ7_append_2 5 = .ok (.iload_n 2, 1) := dk_28 (dk_at dksJ7_append_2_0 5 rfl rfl)
theorem dJ7_append_2_6 : decode cJ7_append_2 6 = .ok (.iload_n 1, 1) := dk_27 (dk_at dksJ7_append_2_0 6 rfl rfl)
theorem dJ7_append_2_7 : decode cJ7_append_2 7 = .ok (.invokestatic 245, 3) := dk_184 0 245 (dk_at dksJ7_append_2_0 7 rfl rfl)
theorem dJ7_append_2_10 : decode cJ7_append_2 10 = .ok (.iadd, 1) := dk_96 (dk_at dksJ7_append_2_0 10 rfl rfl)
theorem dJ7_append_2_11 : decode cJ7_append_2 11 = .ok (.istore_n 3, 1) := dk_62 (dk_at dksJ7_append_2_0 11 rfl rfl)
theorem dJ7_append_2_12 : decode cJ7_append_2 12 = .ok (.aload_n 0, 1) := dk_42 (dk_at dksJ7_append_2_0 12 rfl rfl)
theorem dJ7_append_2_13 : decode cJ7_append_2 13 = .ok (.iload_n 3, 1) := dk_29 (dk_at dksJ7_append_2_0 13 rfl rfl)
theorem dJ7_append_2_14 : decode cJ7_append_2 14 = .ok (.invokevirtual 100, 3) := dk_182 0 100 (dk_at dksJ7_append_2_0 14 rfl rfl)
theorem dJ7_append_2_17 : decode cJ7_append_2 17 = .ok (.aload_n 0, 1) := dk_42 (dk_at dksJ7_append_2_0 17 rfl rfl)
theorem dJ7_append_2_18 : decode cJ7_append_2 18 = .ok (.invokevirtual 83, 3) := dk_182 0 83 (dk_at dksJ7_append_2_0 18 rfl rfl)
theorem dJ7_append_2_21 : decode cJ7_append_2 21 = .ok (.ifCond .eq 16, 3) := dk_153 0 16 (dk_at dksJ7_append_2_0 21 rfl rfl)
theorem dJ7_append_2_24 : decode cJ7_append_2 24 = .ok (.iload_n 1, 1) := dk_27 (dk_at dksJ7_append_2_1 0 rfl rfl)
theorem dJ7_append_2_25 : decode cJ7_append_2 25 = .ok (.iload_n 3, 1) := dk_29 (dk_at dksJ7_append_2_1 1 rfl rfl)
theorem dJ7_append_2_26 : decode cJ7_append_2 26 = .ok (.aload_n 0, 1) := dk_42 (dk_at dksJ7_append_2_1 2 rfl rfl)
theorem dJ7_append_2_27 : decode cJ7_append_2 27 = .ok (.getfield 15, 3) := dk_180 0 15 (dk_at dksJ7_append_2_1 3 rfl rfl)
theorem dJ7_append_2_30 : decode cJ7_append_2 30 = .ok (.invokestatic 248, 3) := dk_184 0 248 (dk_at dksJ7_append_2_1 6 rfl rfl)
theorem dJ7_append_2_33 : decode cJ7_append_2 33 = .ok (.pop, 1) := dk_87 (dk_at dksJ7_append_2_1 9 rfl rfl)
theorem dJ7_append_2_34 : decode cJ7_append_2 34 = .ok (.goto 14, 3) := dk_167 0 14 (dk_at dksJ7_append_2_1 10 rfl rfl)
theorem dJ7_append_2_37 : decode cJ7_append_2 37 = .ok (.iload_n 1, 1) := dk_27 (dk_at dksJ7_append_2_1 13 rfl rfl)
theorem dJ7_append_2_38 : decode cJ7_append_2 38 = .ok (.iload_n 2, 1) := dk_28 (dk_at dksJ7_append_2_1 14 rfl rfl)
theorem dJ7_append_2_39 : decode cJ7_append_2 39 = .ok (.iload_n 3, 1) := dk_29 (dk_at dksJ7_append_2_1 15 rfl rfl)
theorem dJ7_append_2_40 : decode cJ7_append_2 40 = .ok (.aload_n 0, 1) := dk_42 (dk_at dksJ7_append_2_1 16 rfl rfl)
theorem dJ7_append_2_41 : decode cJ7_append_2 41 = .ok (.getfield 15, 3) := dk_180 0 15 (dk_at dksJ7_append_2_1 17 rfl rfl)
theorem dJ7_append_2_44 : decode cJ7_append_2 44 = .ok (.invokestatic 251, 3) := dk_184 0 251 (dk_at dksJ7_append_2_1 20 rfl rfl)
theorem dJ7_append_2_47 : decode cJ7_append_2 47 = .ok (.pop, 1) := dk_87 (dk_at dksJ7_append_2_1 23 rfl rfl)
theorem dJ7_append_2_48 : decode cJ7_append_2 48 = .ok (.aload_n 0, 1) := dk_42 (dk_at dksJ7_append_2_2 0 rfl rfl)
theorem dJ7_append_2_49 : decode cJ7_append_2 49 = .ok (.iload_n 3, 1) := dk_29 (dk_at dksJ7_append_2_2 1 rfl rfl)
theorem dJ7_append_2_50 : decode cJ7_append_2 50 = .ok (.putfield 79, 3) := dk_181 0 79 (dk_at dksJ7_append_2_2 2 rfl rfl)
theorem dJ7_append_2_53 : decode cJ7_append_2 53 = .ok (.aload_n 0, 1) := dk_42 (dk_at dksJ7_append_2_2 5 rfl rfl)
theorem dJ7_append_2_54 : decode cJ7_append_2 54 = .ok (.areturn, 1) := dk_176 (dk_at dksJ7_append_2_2 6 rfl rfl)
abbrev cJ7_getValue : ByteArray := prog_19_method_64_code
def yJ7_getValue : MethodName := ⟨RJ7, "getValue", "()[B"⟩
theorem dJ7_getValue_0 : decode cJ7_getValue 0 = .ok (.aload_n 0, 1) := by decide +kernel
theorem dJ7_getValue_1 : decode cJ7_getValue 1 = .ok (.getfield 15, 3) := by decide +kernel
theorem dJ7_getValue_4 : decode cJ7_getValue 4 = .ok (.areturn, 1) := by decide +kernel
abbrev cJ7_length : ByteArray := prog_19_method_6_code
def yJ7_length : MethodName := ⟨RJ7, "length", "()I"⟩
theorem dJ7_length_0 : decode cJ7_length 0 = .ok (.aload_n 0, 1) := by decide +kernel
theorem dJ7_length_1 : decode cJ7_length 1 = .ok (.getfield 79, 3) := by decide +kernel
theorem dJ7_length_4 : decode cJ7_length 4 = .ok (.ireturn, 1) := by decide +kernel
abbrev cJ7_charAt : ByteArray := prog_19_method_14_code
def yJ7_charAt : MethodName := ⟨RJ7, "charAt", "(I)C"⟩
def dkwJ7_charAt_1 : List UInt8 := [21, 4, 184, 0, 144, 28, 154, 0, 12, 45, 27, 51, 17, 0, 255, 126, 146, 172, 45, 27, 184, 0, 148, 172]
abbrev dktJ7_charAt_1 : List UInt8 := dkwJ7_charAt_1 ++ []
def dkwJ7_charAt_0 : List UInt8 := [42, 180, 0, 22, 61, 42, 180, 0, 15, 78, 42, 180, 0, 79, 45, 190, 28, 122, 184, 0, 138, 54, 4, 27]
abbrev dktJ7_charAt_0 : List UInt8 := dkwJ7_charAt_0 ++ dktJ7_charAt_1
theorem dksJ7_charAt_0 : cJ7_charAt.data.toList.drop 0 = dktJ7_charAt_0 := by decide +kernel
theorem dksJ7_charAt_1 : cJ7_charAt.data.toList.drop 24 = dktJ7_charAt_1 := dk_seg dksJ7_charAt_0 24 rfl rfl
theorem dJ7_charAt_0 : decode cJ7_charAt 0 = .ok (.aload_n 0, 1) := dk_42 (dk_at dksJ7_charAt_0 0 rfl rfl)
theorem dJ7_charAt_1 : decode cJ7_charAt 1 = .ok (.getfield 22, 3) := dk_180 0 22 (dk_at dksJ7_charAt_0 1 rfl rfl)
theorem dJ7_charAt_4 : decode cJ7_charAt 4 = .ok (.istore_n 2, 1) := dk_61 (dk_at dksJ7_charAt_0 4 rfl rfl)
theorem dJ7_charAt_5 : decode cJ7_charAt 5 = .ok (.aload_n 0, 1) := dk_42 (dk_at dksJ7_charAt_0 5 rfl rfl)
theorem dJ7_charAt_6 : decode cJ7_charAt 6 = .ok (.getfield 15, 3) := dk_180 0 15 (dk_at dksJ7_charAt_0 6 rfl rfl)
theorem dJ7_charAt_9 : decode cJ7_charAt 9 = .ok (.astore_n 3, 1) := dk_78 (dk_at dksJ7_charAt_0 9 rfl rfl)
theorem dJ7_charAt_10 : decode cJ7_charAt 10 = .ok (.aload_n 0, 1) := dk_42 (dk_at dksJ7_charAt_0 10 rfl rfl)
theorem dJ7_charAt_11 : decode cJ7_charAt 11 = .ok (.getfield 79, 3) := dk_180 0 79 (dk_at dksJ7_charAt_0 11 rfl rfl)
theorem dJ7_charAt_14 : decode cJ7_charAt 14 = .ok (.aload_n 3, 1) := dk_45 (dk_at dksJ7_charAt_0 14 rfl rfl)
theorem dJ7_charAt_15 : decode cJ7_charAt 15 = .ok (.arraylength, 1) := dk_190 (dk_at dksJ7_charAt_0 15 rfl rfl)
theorem dJ7_charAt_16 : decode cJ7_charAt 16 = .ok (.iload_n 2, 1) := dk_28 (dk_at dksJ7_charAt_0 16 rfl rfl)
theorem dJ7_charAt_17 : decode cJ7_charAt 17 = .ok (.ishr, 1) := dk_122 (dk_at dksJ7_charAt_0 17 rfl rfl)
theorem dJ7_charAt_18 : decode cJ7_charAt 18 = .ok (.invokestatic 138, 3) := dk_184 0 138 (dk_at dksJ7_charAt_0 18 rfl rfl)
theorem dJ7_charAt_21 : decode cJ7_charAt 21 = .ok (.istore 4, 2) := dk_54 4 (dk_at dksJ7_charAt_0 21 rfl rfl)
theorem dJ7_charAt_23 : decode cJ7_charAt 23 = .ok (.iload_n 1, 1) := dk_27 (dk_at dksJ7_charAt_0 23 rfl rfl)
theorem dJ7_charAt_24 : decode cJ7_charAt 24 = .ok (.iload 4, 2) := dk_21 4 (dk_at dksJ7_charAt_1 0 rfl rfl)
theorem dJ7_charAt_26 : decode cJ7_charAt 26 = .ok (.invokestatic 144, 3) := dk_184 0 144 (dk_at dksJ7_charAt_1 2 rfl rfl)
theorem dJ7_charAt_29 : decode cJ7_charAt 29 = .ok (.iload_n 2, 1) := dk_28 (dk_at dksJ7_charAt_1 5 rfl rfl)
theorem dJ7_charAt_30 : decode cJ7_charAt 30 = .ok (.ifCond .ne 12, 3) := dk_154 0 12 (dk_at dksJ7_charAt_1 6 rfl rfl)
theorem dJ7_charAt_33 : decode cJ7_charAt 33 = .ok (.aload_n 3, 1) := dk_45 (dk_at dksJ7_charAt_1 9 rfl rfl)
theorem dJ7_charAt_34 : decode cJ7_charAt 34 = .ok (.iload_n 1, 1) := dk_27 (dk_at dksJ7_charAt_1 10 rfl rfl)
theorem dJ7_charAt_35 : decode cJ7_charAt 35 = .ok (.baload, 1) := dk_51 (dk_at dksJ7_charAt_1 11 rfl rfl)
theorem dJ7_charAt_36 : decode cJ7_charAt 36 = .ok (.sipush 255, 3) := dk_17 0 255 (dk_at dksJ7_charAt_1 12 rfl rfl)
theorem dJ7_charAt_39 : decode cJ7_charAt 39 = .ok (.iand, 1) := dk_126 (dk_at dksJ7_charAt_1 15 rfl rfl)
theorem dJ7_charAt_40 : decode cJ7_charAt 40 = .ok (.i2c, 1) := dk_146 (dk_at dksJ7_charAt_1 16 rfl rfl)
theorem dJ7_charAt_41 : decode cJ7_charAt 41 = .ok (.ireturn, 1) := dk_172 (dk_at dksJ7_charAt_1 17 rfl rfl)
theorem dJ7_charAt_42 : decode cJ7_charAt 42 = .ok (.aload_n 3, 1) := dk_45 (dk_at dksJ7_charAt_1 18 rfl rfl)
theorem dJ7_charAt_43 : decode cJ7_charAt 43 = .ok (.iload_n 1, 1) := dk_27 (dk_at dksJ7_charAt_1 19 rfl rfl)
theorem dJ7_charAt_44 : decode cJ7_charAt 44 = .ok (.invokestatic 148, 3) := dk_184 0 148 (dk_at dksJ7_charAt_1 20 rfl rfl)
theorem dJ7_charAt_47 : decode cJ7_charAt 47 = .ok (.ireturn, 1) := dk_172 (dk_at dksJ7_charAt_1 23 rfl rfl)
abbrev cJ7_append_3 : ByteArray := prog_19_method_31_code
def yJ7_append_3 : MethodName := ⟨RJ7, "append", "(C)Ljava/lang/AbstractStringBuilder;"⟩
def dkwJ7_append_3_3 : List UInt8 := [181, 0, 79, 27, 184, 0, 197, 42, 176]
abbrev dktJ7_append_3_3 : List UInt8 := dkwJ7_append_3_3 ++ []
def dkwJ7_append_3_2 : List UInt8 := [182, 0, 83, 153, 0, 7, 42, 182, 0, 195, 42, 180, 0, 15, 42, 89, 180, 0, 79, 90, 4, 96]
abbrev dktJ7_append_3_2 : List UInt8 := dkwJ7_append_3_2 ++ dktJ7_append_3_3
def dkwJ7_append_3_1 : List UInt8 := [42, 180, 0, 15, 42, 89, 180, 0, 79, 90, 4, 96, 181, 0, 79, 27, 145, 84, 167, 0, 33, 42]
abbrev dktJ7_append_3_1 : List UInt8 := dkwJ7_append_3_1 ++ dktJ7_append_3_2
def dkwJ7_append_3_0 : List UInt8 := [42, 42, 180, 0, 79, 4, 96, 182, 0, 100, 42, 182, 0, 83, 153, 0, 31, 27, 184, 0, 191, 153, 0, 24]
abbrev dktJ7_append_3_0 : List UInt8 := dkwJ7_append_3_0 ++ dktJ7_append_3_1
theorem dksJ7_append_3_0 : cJ7_append_3.data.toList.drop 0 = dktJ7_append_3_0 := by decide +kernel
theorem dksJ7_append_3_1 : cJ7_append_3.data.toList.drop 24 = dktJ7_append_3_1 := dk_seg dksJ7_append_3_0 24 rfl rfl
theorem dksJ7_append_3_2 : cJ7_append_3.data.toList.drop 46 = dktJ7_append_3_2 := dk_seg dksJ7_append_3_1 22 rfl rfl
theorem dksJ7_append_3_3 : cJ7_append_3.data.toList.drop 68 = dktJ7_append_3_3 := dk_seg dksJ7_append_3_2 22 rfl rfl
theorem dJ7_append_3_0 : decode cJ7_append_3 0 = .ok (.aload_n 0, 1) := dk_42 (dk_at dksJ7_append_3_0 0 rfl rfl)
theorem dJ7_append_3_1 : decode cJ7_append_3 1 = .ok (.aload_n 0, 1) := dk_42 (dk_at dksJ7_append_3_0 1 rfl rfl)
theorem dJ7_append_3_2 : decode cJ7_append_3 2 = .ok (.getfield 79, 3) := dk_180 0 79 (dk_at dksJ7_append_3_0 2 rfl rfl)
theorem dJ7_append_3_5 : decode cJ7_append_3 5 = .ok (.iconst 1, 1) := dk_4 (dk_at dksJ7_append_3_0 5 rfl rfl)
theorem dJ7_append_3_6 : decode cJ7_append_3 6 = .ok (.iadd, 1) := dk_96 (dk_at dksJ7_append_3_0 6 rfl rfl)
theorem dJ7_append_3_7 : decode cJ7_append_3 7 = .ok (.invokevirtual 100, 3) := dk_182 0 100 (dk_at dksJ7_append_3_0 7 rfl rfl)
theorem dJ7_append_3_10 : decode cJ7_append_3 10 = .ok (.aload_n 0, 1) := dk_42 (dk_at dksJ7_append_3_0 10 rfl rfl)
theorem dJ7_append_3_11 : decode cJ7_append_3 11 = .ok (.invokevirtual 83, 3) := dk_182 0 83 (dk_at dksJ7_append_3_0 11 rfl rfl)
theorem dJ7_append_3_14 : decode cJ7_append_3 14 = .ok (.ifCond .eq 31, 3) := dk_153 0 31 (dk_at dksJ7_append_3_0 14 rfl rfl)
theorem dJ7_append_3_17 : decode cJ7_append_3 17 = .ok (.iload_n 1, 1) := dk_27 (dk_at dksJ7_append_3_0 17 rfl rfl)
theorem dJ7_append_3_18 : decode cJ7_append_3 18 = .ok (.invokestatic 191, 3) := dk_184 0 191 (dk_at dksJ7_append_3_0 18 rfl rfl)
theorem dJ7_append_3_21 : decode cJ7_append_3 21 = .ok (.ifCond .eq 24, 3) := dk_153 0 24 (dk_at dksJ7_append_3_0 21 rfl rfl)
theorem dJ7_append_3_24 : decode cJ7_append_3 24 = .ok (.aload_n 0, 1) := dk_42 (dk_at dksJ7_append_3_1 0 rfl rfl)
theorem dJ7_append_3_25 : decode cJ7_append_3 25 = .ok (.getfield 15, 3) := dk_180 0 15 (dk_at dksJ7_append_3_1 1 rfl rfl)
theorem dJ7_append_3_28 : decode cJ7_append_3 28 = .ok (.aload_n 0, 1) := dk_42 (dk_at dksJ7_append_3_1 4 rfl rfl)
theorem dJ7_append_3_29 : decode cJ7_append_3 29 = .ok (.dup, 1) := dk_89 (dk_at dksJ7_append_3_1 5 rfl rfl)
theorem dJ7_append_3_30 : decode cJ7_append_3 30 = .ok (.getfield 79, 3) := dk_180 0 79 (dk_at dksJ7_append_3_1 6 rfl rfl)
theorem dJ7_append_3_33 : decode cJ7_append_3 33 = .ok (.dup_x1, 1) := dk_90 (dk_at dksJ7_append_3_1 9 rfl rfl)
theorem dJ7_append_3_34 : decode cJ7_append_3 34 = .ok (.iconst 1, 1) := dk_4 (dk_at dksJ7_append_3_1 10 rfl rfl)
theorem dJ7_append_3_35 : decode cJ7_append_3 35 = .ok (.iadd, 1) := dk_96 (dk_at dksJ7_append_3_1 11 rfl rfl)
theorem dJ7_append_3_36 : decode cJ7_append_3 36 = .ok (.putfield 79, 3) := dk_181 0 79 (dk_at dksJ7_append_3_1 12 rfl rfl)
theorem dJ7_append_3_39 : decode cJ7_append_3 39 = .ok (.iload_n 1, 1) := dk_27 (dk_at dksJ7_append_3_1 15 rfl rfl)
theorem dJ7_append_3_40 : decode cJ7_append_3 40 = .ok (.i2b, 1) := dk_145 (dk_at dksJ7_append_3_1 16 rfl rfl)
theorem dJ7_append_3_41 : decode cJ7_append_3 41 = .ok (.bastore, 1) := dk_84 (dk_at dksJ7_append_3_1 17 rfl rfl)
theorem dJ7_append_3_42 : decode cJ7_append_3 42 = .ok (.goto 33, 3) := dk_167 0 33 (dk_at dksJ7_append_3_1 18 rfl rfl)
theorem dJ7_append_3_45 : decode cJ7_append_3 45 = .ok (.aload_n 0, 1) := dk_42 (dk_at dksJ7_append_3_1 21 rfl rfl)
theorem dJ7_append_3_46 : decode cJ7_append_3 46 = .ok (.invokevirtual 83, 3) := dk_182 0 83 (dk_at dksJ7_append_3_2 0 rfl rfl)
theorem dJ7_append_3_49 : decode cJ7_append_3 49 = .ok (.ifCond .eq 7, 3) := dk_153 0 7 (dk_at dksJ7_append_3_2 3 rfl rfl)
theorem dJ7_append_3_52 : decode cJ7_append_3 52 = .ok (.aload_n 0, 1) := dk_42 (dk_at dksJ7_append_3_2 6 rfl rfl)
theorem dJ7_append_3_53 : decode cJ7_append_3 53 = .ok (.invokevirtual 195, 3) := dk_182 0 195 (dk_at dksJ7_append_3_2 7 rfl rfl)
theorem dJ7_append_3_56 : decode cJ7_append_3 56 = .ok (.aload_n 0, 1) := dk_42 (dk_at dksJ7_append_3_2 10 rfl rfl)
theorem dJ7_append_3_57 : decode cJ7_append_3 57 = .ok (.getfield 15, 3) := dk_180 0 15 (dk_at dksJ7_append_3_2 11 rfl rfl)
theorem dJ7_append_3_60 : decode cJ7_append_3 60 = .ok (.aload_n 0, 1) := dk_42 (dk_at dksJ7_append_3_2 14 rfl rfl)
theorem dJ7_append_3_61 : decode cJ7_append_3 61 = .ok (.dup, 1) := dk_89 (dk_at dksJ7_append_3_2 15 rfl rfl)
theorem dJ7_append_3_62 : decode cJ7_append_3 62 = .ok (.getfield 79, 3) := dk_180 0 79 (dk_at dksJ7_append_3_2 16 rfl rfl)
theorem dJ7_append_3_65 : decode cJ7_append_3 65 = .ok (.dup_x1, 1) := dk_90 (dk_at dksJ7_append_3_2 19 rfl rfl)
theorem dJ7_append_3_66 : decode cJ7_append_3 66 = .ok (.iconst 1, 1) := dk_4 (dk_at dksJ7_append_3_2 20 rfl rfl)
theorem dJ7_append_3_67 : decode cJ7_append_3 67 = .ok (.iadd, 1) := dk_96 (dk_at dksJ7_append_3_2 21 rfl rfl)
theorem dJ7_append_3_68 : decode cJ7_append_3 68 = .ok (.putfield 79, 3) := dk_181 0 79 (dk_at dksJ7_append_3_3 0 rfl rfl)
theorem dJ7_append_3_71 : decode cJ7_append_3 71 = .ok (.iload_n 1, 1) := dk_27 (dk_at dksJ7_append_3_3 3 rfl rfl)
theorem dJ7_append_3_72 : decode cJ7_append_3 72 = .ok (.invokestatic 197, 3) := dk_184 0 197 (dk_at dksJ7_append_3_3 4 rfl rfl)
theorem dJ7_append_3_75 : decode cJ7_append_3 75 = .ok (.aload_n 0, 1) := dk_42 (dk_at dksJ7_append_3_3 7 rfl rfl)
theorem dJ7_append_3_76 : decode cJ7_append_3 76 = .ok (.areturn, 1) := dk_176 (dk_at dksJ7_append_3_3 8 rfl rfl)
abbrev cJ7_getCoder : ByteArray := prog_19_method_67_code
def yJ7_getCoder : MethodName := ⟨RJ7, "getCoder", "()B"⟩
def dkwJ7_getCoder_0 : List UInt8 := [178, 0, 18, 153, 0, 10, 42, 180, 0, 22, 167, 0, 4, 4, 172]
abbrev dktJ7_getCoder_0 : List UInt8 := dkwJ7_getCoder_0 ++ []
theorem dksJ7_getCoder_0 : cJ7_getCoder.data.toList.drop 0 = dktJ7_getCoder_0 := by decide +kernel
theorem dJ7_getCoder_0 : decode cJ7_getCoder 0 = .ok (.getstatic 18, 3) := dk_178 0 18 (dk_at dksJ7_getCoder_0 0 rfl rfl)
theorem dJ7_getCoder_3 : decode cJ7_getCoder 3 = .ok (.ifCond .eq 10, 3) := dk_153 0 10 (dk_at dksJ7_getCoder_0 3 rfl rfl)
theorem dJ7_getCoder_6 : decode cJ7_getCoder 6 = .ok (.aload_n 0, 1) := dk_42 (dk_at dksJ7_getCoder_0 6 rfl rfl)
theorem dJ7_getCoder_7 : decode cJ7_getCoder 7 = .ok (.getfield 22, 3) := dk_180 0 22 (dk_at dksJ7_getCoder_0 7 rfl rfl)
theorem dJ7_getCoder_10 : decode cJ7_getCoder 10 = .ok (.goto 4, 3) := dk_167 0 4 (dk_at dksJ7_getCoder_0 10 rfl rfl)
theorem dJ7_getCoder_13 : decode cJ7_getCoder 13 = .ok (.iconst 1, 1) := dk_4 (dk_at dksJ7_getCoder_0 13 rfl rfl)
theorem dJ7_getCoder_14 : decode cJ7_getCoder 14 = .ok (.ireturn, 1) := dk_172 (dk_at dksJ7_getCoder_0 14 rfl rfl)
abbrev cJ7_setLength : ByteArray := prog_19_method_13_code
def yJ7_setLength : MethodName := ⟨RJ7, "setLength", "(I)V"⟩
def dkwJ7_setLength_3 : List UInt8 := [164, 0, 8, 42, 4, 181, 0, 73, 42, 27, 181, 0, 79, 177]
abbrev dktJ7_setLength_3 : List UInt8 := dkwJ7_setLength_3 ++ []
def dkwJ7_setLength_2 : List UInt8 := [167, 0, 31, 42, 180, 0, 15, 42, 180, 0, 79, 27, 184, 0, 137, 167, 0, 16, 42, 180, 0, 79, 27]
abbrev dktJ7_setLength_2 : List UInt8 := dkwJ7_setLength_2 ++ dktJ7_setLength_3
def dkwJ7_setLength_1 : List UInt8 := [162, 0, 40, 42, 182, 0, 83, 153, 0, 18, 42, 180, 0, 15, 42, 180, 0, 79, 27, 184, 0, 133]
abbrev dktJ7_setLength_1 : List UInt8 := dkwJ7_setLength_1 ++ dktJ7_setLength_2
def dkwJ7_setLength_0 : List UInt8 := [27, 156, 0, 12, 187, 0, 129, 89, 27, 183, 0, 131, 191, 42, 27, 182, 0, 100, 42, 180, 0, 79, 27]
abbrev dktJ7_setLength_0 : List UInt8 := dkwJ7_setLength_0 ++ dktJ7_setLength_1
theorem dksJ7_setLength_0 : cJ7_setLength.data.toList.drop 0 = dktJ7_setLength_0 := by decide +kernel
theorem dksJ7_setLength_1 : cJ7_setLength.data.toList.drop 23 = dktJ7_setLength_1 := dk_seg dksJ7_setLength_0 23 rfl rfl
theorem dksJ7_setLength_2 : cJ7_setLength.data.toList.drop 45 = dktJ7_setLength_2 := dk_seg dksJ7_setLength_1 22 rfl rfl
theorem dksJ7_setLength_3 : cJ7_setLength.data.toList.drop 68 = dktJ7_setLength_3 := dk_seg dksJ7_setLength_2 23 rfl rfl
theorem dJ7_setLength_0 : decode cJ7_setLength 0 = .ok (.iload_n 1, 1) := dk_27 (dk_at dksJ7_setLength_0 0 rfl rfl)
theorem dJ7_setLength_1 : decode cJ7_setLength 1 = .ok (.ifCond .ge 12, 3) := dk_156 0 12 (dk_at dksJ7_setLength_0 1 rfl rfl)
theorem dJ7_setLength_4 : decode cJ7_setLength 4 = .ok (.new 129, 3) := dk_187 0 129 (dk_at dksJ7_setLength_0 4 rfl rfl)
theorem dJ7_setLength_7 : decode cJ7_setLength 7 = .ok (.dup, 1) := dk_89 (dk_at dksJ7_setLength_0 7 rfl rfl)
theorem dJ7_setLength_8 : decode cJ7_setLength 8 = .ok (.iload_n 1, 1) := dk_27 (dk_at dksJ7_setLength_0 8 rfl rfl)
theorem dJ7_setLength_9 : decode cJ7_setLength 9 = .ok (.invokespecial 131, 3) := dk_183 0 131 (dk_at dksJ7_setLength_0 9 rfl rfl)
theorem dJ7_setLength_12 : decode cJ7_setLength 12 = .ok (.athrow, 1) := dk_191 (dk_at dksJ7_setLength_0 12 rfl rfl)
theorem dJ7_setLength_13 : decode cJ7_setLength 13 = .ok (.aload_n 0, 1) := dk_42 (dk_at dksJ7_setLength_0 13 rfl rfl)
theorem dJ7_setLength_14 : decode cJ7_setLength 14 = .ok (.iload_n 1, 1) := dk_27 (dk_at dksJ7_setLength_0 14 rfl rfl)
theorem dJ7_setLength_15 : decode cJ7_setLength 15 = .ok (.invokevirtual 100, 3) := dk_182 0 100 (dk_at dksJ7_setLength_0 15 rfl rfl)
theorem dJ7_setLength_18 : decode cJ7_setLength 18 = .ok (.aload_n 0, 1) := dk_42 (dk_at dksJ7_setLength_0 18 rfl rfl)
theorem dJ7_setLength_19 : decode cJ7_setLength 19 = .ok (.getfield 79, 3) := dk_180 0 79 (dk_at dksJ7_setLength_0 19 rfl rfl)
theorem dJ7_setLength_22 : decode cJ7_setLength 22 = .ok (.iload_n 1, 1) := dk_27 (dk_at dksJ7_setLength_0 22 rfl rfl)
theorem dJ7_setLength_23 : decode cJ7_setLength 23 = .ok (.if_icmp .ge 40, 3) := dk_162 0 40 (dk_at dksJ7_setLength_1 0 rfl rfl)
theorem dJ7_setLength_26 : decode cJ7_setLength 26 = .ok (.aload_n 0, 1) := dk_42 (dk_at dksJ7_setLength_1 3 rfl rfl)
theorem dJ7_setLength_27 : decode cJ7_setLength 27 = .ok (.invokevirtual 83, 3) := dk_182 0 83 (dk_at dksJ7_setLength_1 4 rfl rfl)
theorem dJ7_setLength_30 : decode cJ7_setLength 30 = .ok (.ifCond .eq 18, 3) := dk_153 0 18 (dk_at dksJ7_setLength_1 7 rfl rfl)
theorem dJ7_setLength_33 : decode cJ7_setLength 33 = .ok (.aload_n 0, 1) := dk_42 (dk_at dksJ7_setLength_1 10 rfl rfl)
theorem dJ7_setLength_34 : decode cJ7_setLength 34 = .ok (.getfield 15, 3) := dk_180 0 15 (dk_at dksJ7_setLength_1 11 rfl rfl)
theorem dJ7_setLength_37 : decode cJ7_setLength 37 = .ok (.aload_n 0, 1) := dk_42 (dk_at dksJ7_setLength_1 14 rfl rfl)
theorem dJ7_setLength_38 : decode cJ7_setLength 38 = .ok (.getfield 79, 3) := dk_180 0 79 (dk_at dksJ7_setLength_1 15 rfl rfl)
theorem dJ7_setLength_41 : decode cJ7_setLength 41 = .ok (.iload_n 1, 1) := dk_27 (dk_at dksJ7_setLength_1 18 rfl rfl)
theorem dJ7_setLength_42 : decode cJ7_setLength 42 = .ok (.invokestatic 133, 3) := dk_184 0 133 (dk_at dksJ7_setLength_1 19 rfl rfl)
theorem dJ7_setLength_45 : decode cJ7_setLength 45 = .ok (.goto 31, 3) := dk_167 0 31 (dk_at dksJ7_setLength_2 0 rfl rfl)
theorem dJ7_setLength_48 : decode cJ7_setLength 48 = .ok (.aload_n 0, 1) := dk_42 (dk_at dksJ7_setLength_2 3 rfl rfl)
theorem dJ7_setLength_49 : decode cJ7_setLength 49 = .ok (.getfield 15, 3) := dk_180 0 15 (dk_at dksJ7_setLength_2 4 rfl rfl)
theorem dJ7_setLength_52 : decode cJ7_setLength 52 = .ok (.aload_n 0, 1) := dk_42 (dk_at dksJ7_setLength_2 7 rfl rfl)
theorem dJ7_setLength_53 : decode cJ7_setLength 53 = .ok (.getfield 79, 3) := dk_180 0 79 (dk_at dksJ7_setLength_2 8 rfl rfl)
theorem dJ7_setLength_56 : decode cJ7_setLength 56 = .ok (.iload_n 1, 1) := dk_27 (dk_at dksJ7_setLength_2 11 rfl rfl)
theorem dJ7_setLength_57 : decode cJ7_setLength 57 = .ok (.invokestatic 137, 3) := dk_184 0 137 (dk_at dksJ7_setLength_2 12 rfl rfl)
theorem dJ7_setLength_60 : decode cJ7_setLength 60 = .ok (.goto 16, 3) := dk_167 0 16 (dk_at dksJ7_setLength_2 15 rfl rfl)
theorem dJ7_setLength_63 : decode cJ7_setLength 63 = .ok (.aload_n 0, 1) := dk_42 (dk_at dksJ7_setLength_2 18 rfl rfl)
theorem dJ7_setLength_64 : decode cJ7_setLength 64 = .ok (.getfield 79, 3) := dk_180 0 79 (dk_at dksJ7_setLength_2 19 rfl rfl)
theorem dJ7_setLength_67 : decode cJ7_setLength 67 = .ok (.iload_n 1, 1) := dk_27 (dk_at dksJ7_setLength_2 22 rfl rfl)
theorem dJ7_setLength_68 : decode cJ7_setLength 68 = .ok (.if_icmp .le 8, 3) := dk_164 0 8 (dk_at dksJ7_setLength_3 0 rfl rfl)
theorem dJ7_setLength_71 : decode cJ7_setLength 71 = .ok (.aload_n 0, 1) := dk_42 (dk_at dksJ7_setLength_3 3 rfl rfl)
theorem dJ7_setLength_72 : decode cJ7_setLength 72 = .ok (.iconst 1, 1) := dk_4 (dk_at dksJ7_setLength_3 4 rfl rfl)
theorem dJ7_setLength_73 : decode cJ7_setLength 73 = .ok (.putfield 73, 3) := dk_181 0 73 (dk_at dksJ7_setLength_3 5 rfl rfl)
theorem dJ7_setLength_76 : decode cJ7_setLength 76 = .ok (.aload_n 0, 1) := dk_42 (dk_at dksJ7_setLength_3 8 rfl rfl)
theorem dJ7_setLength_77 : decode cJ7_setLength 77 = .ok (.iload_n 1, 1) := dk_27 (dk_at dksJ7_setLength_3 9 rfl rfl)
theorem dJ7_setLength_78 : decode cJ7_setLength 78 = .ok (.putfield 79, 3) := dk_181 0 79 (dk_at dksJ7_setLength_3 10 rfl rfl)
theorem dJ7_setLength_81 : decode cJ7_setLength 81 = .ok (.return_, 1) := dk_177 (dk_at dksJ7_setLength_3 13 rfl rfl)
abbrev cJ7_append_4 : ByteArray := prog_19_method_33_code
def yJ7_append_4 : MethodName := ⟨RJ7, "append", "(J)Ljava/lang/AbstractStringBuilder;"⟩
def dkwJ7_append_4_2 : List UInt8 := [180, 0, 15, 184, 1, 6, 87, 42, 21, 4, 181, 0, 79, 42, 176]
abbrev dktJ7_append_4_2 : List UInt8 := dkwJ7_append_4_2 ++ []
def dkwJ7_append_4_1 : List UInt8 := [153, 0, 17, 31, 21, 4, 42, 180, 0, 15, 184, 1, 3, 87, 167, 0, 15, 31, 29, 21, 4, 42]
abbrev dktJ7_append_4_1 : List UInt8 := dkwJ7_append_4_1 ++ dktJ7_append_4_2
def dkwJ7_append_4_0 : List UInt8 := [42, 180, 0, 79, 62, 29, 31, 184, 0, 254, 96, 54, 4, 42, 21, 4, 182, 0, 100, 42, 182, 0, 83]
abbrev dktJ7_append_4_0 : List UInt8 := dkwJ7_append_4_0 ++ dktJ7_append_4_1
theorem dksJ7_append_4_0 : cJ7_append_4.data.toList.drop 0 = dktJ7_append_4_0 := by decide +kernel
theorem dksJ7_append_4_1 : cJ7_append_4.data.toList.drop 23 = dktJ7_append_4_1 := dk_seg dksJ7_append_4_0 23 rfl rfl
theorem dksJ7_append_4_2 : cJ7_append_4.data.toList.drop 45 = dktJ7_append_4_2 := dk_seg dksJ7_append_4_1 22 rfl rfl
theorem dJ7_append_4_0 : decode cJ7_append_4 0 = .ok (.aload_n 0, 1) := dk_42 (dk_at dksJ7_append_4_0 0 rfl rfl)
theorem dJ7_append_4_1 : decode cJ7_append_4 1 = .ok (.getfield 79, 3) := dk_180 0 79 (dk_at dksJ7_append_4_0 1 rfl rfl)
theorem dJ7_append_4_4 : decode cJ7_append_4 4 = .ok (.istore_n 3, 1) := dk_62 (dk_at dksJ7_append_4_0 4 rfl rfl)
theorem dJ7_append_4_5 : decode cJ7_append_4 5 = .ok (.iload_n 3, 1) := dk_29 (dk_at dksJ7_append_4_0 5 rfl rfl)
theorem dJ7_append_4_6 : decode cJ7_append_4 6 = .ok (.lload_n 1, 1) := dk_31 (dk_at dksJ7_append_4_0 6 rfl rfl)
theorem dJ7_append_4_7 : decode cJ7_append_4 7 = .ok (.invokestatic 254, 3) := dk_184 0 254 (dk_at dksJ7_append_4_0 7 rfl rfl)
theorem dJ7_append_4_10 : decode cJ7_append_4 10 = .ok (.iadd, 1) := dk_96 (dk_at dksJ7_append_4_0 10 rfl rfl)
theorem dJ7_append_4_11 : decode cJ7_append_4 11 = .ok (.istore 4, 2) := dk_54 4 (dk_at dksJ7_append_4_0 11 rfl rfl)
theorem dJ7_append_4_13 : decode cJ7_append_4 13 = .ok (.aload_n 0, 1) := dk_42 (dk_at dksJ7_append_4_0 13 rfl rfl)
theorem dJ7_append_4_14 : decode cJ7_append_4 14 = .ok (.iload 4, 2) := dk_21 4 (dk_at dksJ7_append_4_0 14 rfl rfl)
theorem dJ7_append_4_16 : decode cJ7_append_4 16 = .ok (.invokevirtual 100, 3) := dk_182 0 100 (dk_at dksJ7_append_4_0 16 rfl rfl)
theorem dJ7_append_4_19 : decode cJ7_append_4 19 = .ok (.aload_n 0, 1) := dk_42 (dk_at dksJ7_append_4_0 19 rfl rfl)
theorem dJ7_append_4_20 : decode cJ7_append_4 20 = .ok (.invokevirtual 83, 3) := dk_182 0 83 (dk_at dksJ7_append_4_0 20 rfl rfl)
theorem dJ7_append_4_23 : decode cJ7_append_4 23 = .ok (.ifCond .eq 17, 3) := dk_153 0 17 (dk_at dksJ7_append_4_1 0 rfl rfl)
theorem dJ7_append_4_26 : decode cJ7_append_4 26 = .ok (.lload_n 1, 1) := dk_31 (dk_at dksJ7_append_4_1 3 rfl rfl)
theorem dJ7_append_4_27 : decode cJ7_append_4 27 = .ok (.iload 4, 2) := dk_21 4 (dk_at dksJ7_append_4_1 4 rfl rfl)
theorem dJ7_append_4_29 : decode cJ7_append_4 29 = .ok (.aload_n 0, 1) := dk_42 (dk_at dksJ7_append_4_1 6 rfl rfl)
theorem dJ7_append_4_30 : decode cJ7_append_4 30 = .ok (.getfield 15, 3) := dk_180 0 15 (dk_at dksJ7_append_4_1 7 rfl rfl)
theorem dJ7_append_4_33 : decode cJ7_append_4 33 = .ok (.invokestatic 259, 3) := dk_184 1 3 (dk_at dksJ7_append_4_1 10 rfl rfl)
theorem dJ7_append_4_36 : decode cJ7_append_4 36 = .ok (.pop, 1) := dk_87 (dk_at dksJ7_append_4_1 13 rfl rfl)
theorem dJ7_append_4_37 : decode cJ7_append_4 37 = .ok (.goto 15, 3) := dk_167 0 15 (dk_at dksJ7_append_4_1 14 rfl rfl)
theorem dJ7_append_4_40 : decode cJ7_append_4 40 = .ok (.lload_n 1, 1) := dk_31 (dk_at dksJ7_append_4_1 17 rfl rfl)
theorem dJ7_append_4_41 : decode cJ7_append_4 41 = .ok (.iload_n 3, 1) := dk_29 (dk_at dksJ7_append_4_1 18 rfl rfl)
theorem dJ7_append_4_42 : decode cJ7_append_4 42 = .ok (.iload 4, 2) := dk_21 4 (dk_at dksJ7_append_4_1 19 rfl rfl)
theorem dJ7_append_4_44 : decode cJ7_append_4 44 = .ok (.aload_n 0, 1) := dk_42 (dk_at dksJ7_append_4_1 21 rfl rfl)
theorem dJ7_append_4_45 : decode cJ7_append_4 45 = .ok (.getfield 15, 3) := dk_180 0 15 (dk_at dksJ7_append_4_2 0 rfl rfl)
theorem dJ7_append_4_48 : decode cJ7_append_4 48 = .ok (.invokestatic 262, 3) := dk_184 1 6 (dk_at dksJ7_append_4_2 3 rfl rfl)
theorem dJ7_append_4_51 : decode cJ7_append_4 51 = .ok (.pop, 1) := dk_87 (dk_at dksJ7_append_4_2 6 rfl rfl)
theorem dJ7_append_4_52 : decode cJ7_append_4 52 = .ok (.aload_n 0, 1) := dk_42 (dk_at dksJ7_append_4_2 7 rfl rfl)
theorem dJ7_append_4_53 : decode cJ7_append_4 53 = .ok (.iload 4, 2) := dk_21 4 (dk_at dksJ7_append_4_2 8 rfl rfl)
theorem dJ7_append_4_55 : decode cJ7_append_4 55 = .ok (.putfield 79, 3) := dk_181 0 79 (dk_at dksJ7_append_4_2 10 rfl rfl)
theorem dJ7_append_4_58 : decode cJ7_append_4 58 = .ok (.aload_n 0, 1) := dk_42 (dk_at dksJ7_append_4_2 13 rfl rfl)
theorem dJ7_append_4_59 : decode cJ7_append_4 59 = .ok (.areturn, 1) := dk_176 (dk_at dksJ7_append_4_2 14 rfl rfl)
theorem q138 : (Jvm.Cond.initialized "java/lang/AbstractStringBuilder") ∈ lw_all := lw_g (lw_at lw_m1 10 rfl) rfl
theorem q256 : (Jvm.Cond.instanceMethod ({ cls := "java/lang/AbstractStringBuilder", name := "<init>", desc := "(I)V" } : Jvm.MethodName)) ∈ lw_all := lw_g (lw_at lw_m1 128 rfl) rfl
theorem q257 : (Jvm.Cond.code ({ cls := "java/lang/AbstractStringBuilder", name := "<init>", desc := "(I)V" } : Jvm.MethodName) prog_19_method_2_code (2 : Nat) (Option.none : Option Jvm.ClassFile.FieldType)) ∈ lw_all := lw_g (lw_at lw_m1 129 rfl) rfl
theorem q258 : (Jvm.Cond.methodLink "java/lang/AbstractStringBuilder" (3 : Nat) ({ cls := "java/lang/Object", name := "<init>", desc := "()V" } : Jvm.MethodName)) ∈ lw_all := lw_g (lw_at lw_m1 130 rfl) rfl
theorem q259 : (Jvm.Cond.fieldLink "java/lang/AbstractStringBuilder" (18 : Nat) "java/lang/String" "COMPACT_STRINGS" "Z") ∈ lw_all := lw_g (lw_at lw_m1 131 rfl) rfl
theorem q261 : (Jvm.Cond.methodLink "java/lang/AbstractStringBuilder" (26 : Nat) ({ cls := "java/lang/StringUTF16", name := "newBytesFor", desc := "(I)[B" } : Jvm.MethodName)) ∈ lw_all := lw_g (lw_at lw_m1 133 rfl) rfl
theorem q268 : (Jvm.Cond.fieldLink "java/lang/AbstractStringBuilder" (15 : Nat) "java/lang/AbstractStringBuilder" "value" "[B") ∈ lw_all := lw_g (lw_at lw_m1 140 rfl) rfl
theorem q269 : (Jvm.Cond.fieldLink "java/lang/AbstractStringBuilder" (22 : Nat) "java/lang/AbstractStringBuilder" "coder" "B") ∈ lw_all := lw_g (lw_at lw_m1 141 rfl) rfl
theorem q270 : (Jvm.Cond.fieldLink "java/lang/AbstractStringBuilder" (73 : Nat) "java/lang/AbstractStringBuilder" "maybeLatin1" "Z") ∈ lw_all := lw_g (lw_at lw_m1 142 rfl) rfl
theorem q272 : (Jvm.Cond.fieldLink "java/lang/AbstractStringBuilder" (79 : Nat) "java/lang/AbstractStringBuilder" "count" "I") ∈ lw_all := lw_g (lw_at lw_m1 144 rfl) rfl
theorem q274 : (Jvm.Cond.soleField "java/lang/AbstractStringBuilder" "value") ∈ lw_all := lw_g (lw_at lw_m1 146 rfl) rfl
theorem q276 : (Jvm.Cond.soleField "java/lang/AbstractStringBuilder" "coder") ∈ lw_all := lw_g (lw_at lw_m1 148 rfl) rfl
theorem q278 : (Jvm.Cond.soleField "java/lang/AbstractStringBuilder" "maybeLatin1") ∈ lw_all := lw_g (lw_at lw_m1 150 rfl) rfl
theorem q280 : (Jvm.Cond.soleField "java/lang/AbstractStringBuilder" "count") ∈ lw_all := lw_g (lw_at lw_m1 152 rfl) rfl
theorem q289 : (Jvm.Cond.instanceMethod ({ cls := "java/lang/AbstractStringBuilder", name := "append", desc := "(Ljava/lang/String;)Ljava/lang/AbstractStringBuilder;" } : Jvm.MethodName)) ∈ lw_all := lw_g (lw_at lw_m1 161 rfl) rfl
theorem q290 : (Jvm.Cond.code ({ cls := "java/lang/AbstractStringBuilder", name := "append", desc := "(Ljava/lang/String;)Ljava/lang/AbstractStringBuilder;" } : Jvm.MethodName) prog_19_method_22_code (3 : Nat) (Option.some (Jvm.ClassFile.FieldType.object "java/lang/AbstractStringBuilder"))) ∈ lw_all := lw_g (lw_at lw_m1 162 rfl) rfl
theorem q291 : (Jvm.Cond.methodLink "java/lang/AbstractStringBuilder" (204 : Nat) ({ cls := "java/lang/AbstractStringBuilder", name := "appendNull", desc := "()Ljava/lang/AbstractStringBuilder;" } : Jvm.MethodName)) ∈ lw_all := lw_g (lw_at lw_m1 163 rfl) rfl
theorem q292 : (Jvm.Cond.privateMethod ({ cls := "java/lang/AbstractStringBuilder", name := "appendNull", desc := "()Ljava/lang/AbstractStringBuilder;" } : Jvm.MethodName)) ∈ lw_tbl := lw_at lw_m1 164 rfl
theorem q293 : (Jvm.Cond.instanceMethod ({ cls := "java/lang/AbstractStringBuilder", name := "appendNull", desc := "()Ljava/lang/AbstractStringBuilder;" } : Jvm.MethodName)) ∈ lw_all := lw_g (lw_at lw_m1 165 rfl) rfl
theorem q294 : (Jvm.Cond.code ({ cls := "java/lang/AbstractStringBuilder", name := "appendNull", desc := "()Ljava/lang/AbstractStringBuilder;" } : Jvm.MethodName) prog_19_method_26_code (3 : Nat) (Option.some (Jvm.ClassFile.FieldType.object "java/lang/AbstractStringBuilder"))) ∈ lw_all := lw_g (lw_at lw_m1 166 rfl) rfl
theorem q295 : (Jvm.Cond.methodLink "java/lang/AbstractStringBuilder" (100 : Nat) ({ cls := "java/lang/AbstractStringBuilder", name := "ensureCapacityInternal", desc := "(I)V" } : Jvm.MethodName)) ∈ lw_all := lw_g (lw_at lw_m1 167 rfl) rfl
theorem q296 : (Jvm.Cond.privateMethod ({ cls := "java/lang/AbstractStringBuilder", name := "ensureCapacityInternal", desc := "(I)V" } : Jvm.MethodName)) ∈ lw_tbl := lw_at lw_m1 168 rfl
theorem q297 : (Jvm.Cond.instanceMethod ({ cls := "java/lang/AbstractStringBuilder", name := "ensureCapacityInternal", desc := "(I)V" } : Jvm.MethodName)) ∈ lw_all := lw_g (lw_at lw_m1 169 rfl) rfl
theorem q298 : (Jvm.Cond.code ({ cls := "java/lang/AbstractStringBuilder", name := "ensureCapacityInternal", desc := "(I)V" } : Jvm.MethodName) prog_19_method_9_code (3 : Nat) (Option.none : Option Jvm.ClassFile.FieldType)) ∈ lw_all := lw_g (lw_at lw_m1 170 rfl) rfl
theorem q299 : (Jvm.Cond.methodLink "java/lang/AbstractStringBuilder" (104 : Nat) ({ cls := "java/lang/AbstractStringBuilder", name := "newCapacity", desc := "(I)I" } : Jvm.MethodName)) ∈ lw_all := lw_g (lw_at lw_m1 171 rfl) rfl
theorem q300 : (Jvm.Cond.privateMethod ({ cls := "java/lang/AbstractStringBuilder", name := "newCapacity", desc := "(I)I" } : Jvm.MethodName)) ∈ lw_tbl := lw_at lw_m1 172 rfl
theorem q301 : (Jvm.Cond.instanceMethod ({ cls := "java/lang/AbstractStringBuilder", name := "newCapacity", desc := "(I)I" } : Jvm.MethodName)) ∈ lw_all := lw_g (lw_at lw_m1 173 rfl) rfl
theorem q302 : (Jvm.Cond.code ({ cls := "java/lang/AbstractStringBuilder", name := "newCapacity", desc := "(I)I" } : Jvm.MethodName) prog_19_method_10_code (6 : Nat) (Option.some Jvm.ClassFile.FieldType.int)) ∈ lw_all := lw_g (lw_at lw_m1 174 rfl) rfl
theorem q303 : (Jvm.Cond.methodLink "java/lang/AbstractStringBuilder" (114 : Nat) ({ cls := "jdk/internal/util/ArraysSupport", name := "newLength", desc := "(III)I" } : Jvm.MethodName)) ∈ lw_all := lw_g (lw_at lw_m1 175 rfl) rfl
theorem q313 : (Jvm.Cond.constant "java/lang/AbstractStringBuilder" (39 : Nat) (2147483647 : Int32)) ∈ lw_all := lw_g (lw_at lw_m1 185 rfl) rfl
theorem q314 : (Jvm.Cond.methodLink "java/lang/AbstractStringBuilder" (108 : Nat) ({ cls := "java/util/Arrays", name := "copyOf", desc := "([BI)[B" } : Jvm.MethodName)) ∈ lw_all := lw_g (lw_at lw_m1 186 rfl) rfl
theorem q330 : (Jvm.Cond.methodLink "java/lang/AbstractStringBuilder" (83 : Nat) ({ cls := "java/lang/AbstractStringBuilder", name := "isLatin1", desc := "()Z" } : Jvm.MethodName)) ∈ lw_all := lw_g (lw_at lw_m1 202 rfl) rfl
theorem q331 : (Jvm.Cond.instanceMethod ({ cls := "java/lang/AbstractStringBuilder", name := "isLatin1", desc := "()Z" } : Jvm.MethodName)) ∈ lw_all := lw_g (lw_at lw_m1 203 rfl) rfl
theorem q332 : (Jvm.Cond.sameMethod "java/lang/AbstractStringBuilder" "java/lang/AbstractStringBuilder" "isLatin1" "()Z") ∈ lw_all := lw_g (lw_at lw_m1 204 rfl) rfl
theorem q334 : (Jvm.Cond.code ({ cls := "java/lang/AbstractStringBuilder", name := "isLatin1", desc := "()Z" } : Jvm.MethodName) prog_19_method_68_code (1 : Nat) (Option.some Jvm.ClassFile.FieldType.boolean)) ∈ lw_all := lw_g (lw_at lw_m1 206 rfl) rfl
theorem q335 : (Jvm.Cond.methodLink "java/lang/AbstractStringBuilder" (226 : Nat) ({ cls := "java/lang/StringUTF16", name := "putCharsAt", desc := "([BICCCC)I" } : Jvm.MethodName)) ∈ lw_all := lw_g (lw_at lw_m1 207 rfl) rfl
theorem q361 : (Jvm.Cond.methodLink "java/lang/AbstractStringBuilder" (32 : Nat) ({ cls := "java/lang/String", name := "length", desc := "()I" } : Jvm.MethodName)) ∈ lw_all := lw_g (lw_at lw_m1 233 rfl) rfl
theorem q370 : (Jvm.Cond.methodLink "java/lang/AbstractStringBuilder" (208 : Nat) ({ cls := "java/lang/AbstractStringBuilder", name := "putStringAt", desc := "(ILjava/lang/String;)V" } : Jvm.MethodName)) ∈ lw_all := lw_g (lw_at lw_m2 2 rfl) rfl
theorem q371 : (Jvm.Cond.privateMethod ({ cls := "java/lang/AbstractStringBuilder", name := "putStringAt", desc := "(ILjava/lang/String;)V" } : Jvm.MethodName)) ∈ lw_tbl := lw_at lw_m2 3 rfl
theorem q372 : (Jvm.Cond.instanceMethod ({ cls := "java/lang/AbstractStringBuilder", name := "putStringAt", desc := "(ILjava/lang/String;)V" } : Jvm.MethodName)) ∈ lw_all := lw_g (lw_at lw_m2 4 rfl) rfl
theorem q373 : (Jvm.Cond.code ({ cls := "java/lang/AbstractStringBuilder", name := "putStringAt", desc := "(ILjava/lang/String;)V" } : Jvm.MethodName) prog_19_method_73_code (3 : Nat) (Option.none : Option Jvm.ClassFile.FieldType)) ∈ lw_all := lw_g (lw_at lw_m2 5 rfl) rfl
theorem q374 : (Jvm.Cond.methodLink "java/lang/AbstractStringBuilder" (397 : Nat) ({ cls := "java/lang/AbstractStringBuilder", name := "inflateIfNeededFor", desc := "(Ljava/lang/String;)V" } : Jvm.MethodName)) ∈ lw_all := lw_g (lw_at lw_m2 6 rfl) rfl
theorem q375 : (Jvm.Cond.privateMethod ({ cls := "java/lang/AbstractStringBuilder", name := "inflateIfNeededFor", desc := "(Ljava/lang/String;)V" } : Jvm.MethodName)) ∈ lw_tbl := lw_at lw_m2 7 rfl
theorem q376 : (Jvm.Cond.instanceMethod ({ cls := "java/lang/AbstractStringBuilder", name := "inflateIfNeededFor", desc := "(Ljava/lang/String;)V" } : Jvm.MethodName)) ∈ lw_all := lw_g (lw_at lw_m2 8 rfl) rfl
theorem q377 : (Jvm.Cond.code ({ cls := "java/lang/AbstractStringBuilder", name := "inflateIfNeededFor", desc := "(Ljava/lang/String;)V" } : Jvm.MethodName) prog_19_method_71_code (2 : Nat) (Option.none : Option Jvm.ClassFile.FieldType)) ∈ lw_all := lw_g (lw_at lw_m2 9 rfl) rfl
theorem q378 : (Jvm.Cond.methodLink "java/lang/AbstractStringBuilder" (40 : Nat) ({ cls := "java/lang/String", name := "coder", desc := "()B" } : Jvm.MethodName)) ∈ lw_all := lw_g (lw_at lw_m2 10 rfl) rfl
theorem q379 : (Jvm.Cond.methodLink "java/lang/AbstractStringBuilder" (195 : Nat) ({ cls := "java/lang/AbstractStringBuilder", name := "inflate", desc := "()V" } : Jvm.MethodName)) ∈ lw_all := lw_g (lw_at lw_m2 11 rfl) rfl
theorem q380 : (Jvm.Cond.privateMethod ({ cls := "java/lang/AbstractStringBuilder", name := "inflate", desc := "()V" } : Jvm.MethodName)) ∈ lw_tbl := lw_at lw_m2 12 rfl
theorem q381 : (Jvm.Cond.instanceMethod ({ cls := "java/lang/AbstractStringBuilder", name := "inflate", desc := "()V" } : Jvm.MethodName)) ∈ lw_all := lw_g (lw_at lw_m2 13 rfl) rfl
theorem q382 : (Jvm.Cond.code ({ cls := "java/lang/AbstractStringBuilder", name := "inflate", desc := "()V" } : Jvm.MethodName) prog_19_method_11_code (2 : Nat) (Option.none : Option Jvm.ClassFile.FieldType)) ∈ lw_all := lw_g (lw_at lw_m2 14 rfl) rfl
theorem q383 : (Jvm.Cond.methodLink "java/lang/AbstractStringBuilder" (125 : Nat) ({ cls := "java/lang/StringLatin1", name := "inflate", desc := "([BI[BII)V" } : Jvm.MethodName)) ∈ lw_all := lw_g (lw_at lw_m2 15 rfl) rfl
theorem q398 : (Jvm.Cond.methodLink "java/lang/AbstractStringBuilder" (399 : Nat) ({ cls := "java/lang/String", name := "getBytes", desc := "([BIB)V" } : Jvm.MethodName)) ∈ lw_all := lw_g (lw_at lw_m2 30 rfl) rfl
theorem q409 : (Jvm.Cond.instanceMethod ({ cls := "java/lang/AbstractStringBuilder", name := "append", desc := "(I)Ljava/lang/AbstractStringBuilder;" } : Jvm.MethodName)) ∈ lw_all := lw_g (lw_at lw_m2 41 rfl) rfl
theorem q410 : (Jvm.Cond.code ({ cls := "java/lang/AbstractStringBuilder", name := "append", desc := "(I)Ljava/lang/AbstractStringBuilder;" } : Jvm.MethodName) prog_19_method_32_code (4 : Nat) (Option.some (Jvm.ClassFile.FieldType.object "java/lang/AbstractStringBuilder"))) ∈ lw_all := lw_g (lw_at lw_m2 42 rfl) rfl
theorem q411 : (Jvm.Cond.methodLink "java/lang/AbstractStringBuilder" (245 : Nat) ({ cls := "java/lang/Integer", name := "stringSize", desc := "(I)I" } : Jvm.MethodName)) ∈ lw_all := lw_g (lw_at lw_m2 43 rfl) rfl
theorem q414 : (Jvm.Cond.methodLink "java/lang/AbstractStringBuilder" (248 : Nat) ({ cls := "java/lang/Integer", name := "getChars", desc := "(II[B)I" } : Jvm.MethodName)) ∈ lw_all := lw_g (lw_at lw_m2 46 rfl) rfl
theorem q421 : (Jvm.Cond.methodLink "java/lang/AbstractStringBuilder" (251 : Nat) ({ cls := "java/lang/StringUTF16", name := "getChars", desc := "(III[B)I" } : Jvm.MethodName)) ∈ lw_all := lw_g (lw_at lw_m2 53 rfl) rfl
theorem q443 : (Jvm.Cond.instanceMethod ({ cls := "java/lang/AbstractStringBuilder", name := "getValue", desc := "()[B" } : Jvm.MethodName)) ∈ lw_all := lw_g (lw_at lw_m2 75 rfl) rfl
theorem q444 : (Jvm.Cond.sameMethod "java/lang/AbstractStringBuilder" "java/lang/AbstractStringBuilder" "getValue" "()[B") ∈ lw_all := lw_g (lw_at lw_m2 76 rfl) rfl
theorem q446 : (Jvm.Cond.code ({ cls := "java/lang/AbstractStringBuilder", name := "getValue", desc := "()[B" } : Jvm.MethodName) prog_19_method_64_code (1 : Nat) (Option.some (Jvm.ClassFile.FieldType.array Jvm.ClassFile.FieldType.byte))) ∈ lw_all := lw_g (lw_at lw_m2 78 rfl) rfl
theorem q448 : (Jvm.Cond.instanceMethod ({ cls := "java/lang/AbstractStringBuilder", name := "length", desc := "()I" } : Jvm.MethodName)) ∈ lw_all := lw_g (lw_at lw_m2 80 rfl) rfl
theorem q449 : (Jvm.Cond.sameMethod "java/lang/AbstractStringBuilder" "java/lang/AbstractStringBuilder" "length" "()I") ∈ lw_all := lw_g (lw_at lw_m2 81 rfl) rfl
theorem q454 : (Jvm.Cond.code ({ cls := "java/lang/AbstractStringBuilder", name := "length", desc := "()I" } : Jvm.MethodName) prog_19_method_6_code (1 : Nat) (Option.some Jvm.ClassFile.FieldType.int)) ∈ lw_all := lw_g (lw_at lw_m2 86 rfl) rfl
theorem q1097 : (Jvm.Cond.instanceMethod ({ cls := "java/lang/AbstractStringBuilder", name := "charAt", desc := "(I)C" } : Jvm.MethodName)) ∈ lw_all := lw_g (lw_at lw_m5 9 rfl) rfl
theorem q1098 : (Jvm.Cond.code ({ cls := "java/lang/AbstractStringBuilder", name := "charAt", desc := "(I)C" } : Jvm.MethodName) prog_19_method_14_code (5 : Nat) (Option.some Jvm.ClassFile.FieldType.char)) ∈ lw_all := lw_g (lw_at lw_m5 10 rfl) rfl
theorem q1099 : (Jvm.Cond.methodLink "java/lang/AbstractStringBuilder" (138 : Nat) ({ cls := "java/lang/Math", name := "min", desc := "(II)I" } : Jvm.MethodName)) ∈ lw_all := lw_g (lw_at lw_m5 11 rfl) rfl
theorem q1100 : (Jvm.Cond.methodLink "java/lang/AbstractStringBuilder" (144 : Nat) ({ cls := "java/lang/String", name := "checkIndex", desc := "(II)V" } : Jvm.MethodName)) ∈ lw_all := lw_g (lw_at lw_m5 12 rfl) rfl
theorem q1104 : (Jvm.Cond.methodLink "java/lang/AbstractStringBuilder" (148 : Nat) ({ cls := "java/lang/StringUTF16", name := "getChar", desc := "([BI)C" } : Jvm.MethodName)) ∈ lw_all := lw_g (lw_at lw_m5 16 rfl) rfl
theorem q1126 : (Jvm.Cond.instanceMethod ({ cls := "java/lang/AbstractStringBuilder", name := "append", desc := "(C)Ljava/lang/AbstractStringBuilder;" } : Jvm.MethodName)) ∈ lw_all := lw_g (lw_at lw_m5 38 rfl) rfl
theorem q1127 : (Jvm.Cond.code ({ cls := "java/lang/AbstractStringBuilder", name := "append", desc := "(C)Ljava/lang/AbstractStringBuilder;" } : Jvm.MethodName) prog_19_method_31_code (2 : Nat) (Option.some (Jvm.ClassFile.FieldType.object "java/lang/AbstractStringBuilder"))) ∈ lw_all := lw_g (lw_at lw_m5 39 rfl) rfl
theorem q1128 : (Jvm.Cond.methodLink "java/lang/AbstractStringBuilder" (191 : Nat) ({ cls := "java/lang/StringLatin1", name := "canEncode", desc := "(C)Z" } : Jvm.MethodName)) ∈ lw_all := lw_g (lw_at lw_m5 40 rfl) rfl
theorem q1131 : (Jvm.Cond.methodLink "java/lang/AbstractStringBuilder" (197 : Nat) ({ cls := "java/lang/StringUTF16", name := "putCharSB", desc := "([BII)V" } : Jvm.MethodName)) ∈ lw_all := lw_g (lw_at lw_m5 43 rfl) rfl
theorem q1159 : (Jvm.Cond.instanceMethod ({ cls := "java/lang/AbstractStringBuilder", name := "getCoder", desc := "()B" } : Jvm.MethodName)) ∈ lw_all := lw_g (lw_at lw_m5 71 rfl) rfl
theorem q1160 : (Jvm.Cond.sameMethod "java/lang/AbstractStringBuilder" "java/lang/AbstractStringBuilder" "getCoder" "()B") ∈ lw_all := lw_g (lw_at lw_m5 72 rfl) rfl
theorem q1162 : (Jvm.Cond.code ({ cls := "java/lang/AbstractStringBuilder", name := "getCoder", desc := "()B" } : Jvm.MethodName) prog_19_method_67_code (1 : Nat) (Option.some Jvm.ClassFile.FieldType.byte)) ∈ lw_all := lw_g (lw_at lw_m5 74 rfl) rfl
theorem q2436 : (Jvm.Cond.instanceMethod ({ cls := "java/lang/AbstractStringBuilder", name := "setLength", desc := "(I)V" } : Jvm.MethodName)) ∈ lw_all := lw_g (lw_at lw_m10 148 rfl) rfl
theorem q2437 : (Jvm.Cond.code ({ cls := "java/lang/AbstractStringBuilder", name := "setLength", desc := "(I)V" } : Jvm.MethodName) prog_19_method_13_code (2 : Nat) (Option.none : Option Jvm.ClassFile.FieldType)) ∈ lw_all := lw_g (lw_at lw_m10 149 rfl) rfl
theorem q2438 : (Jvm.Cond.classLink "java/lang/AbstractStringBuilder" (129 : Nat) "java/lang/StringIndexOutOfBoundsException") ∈ lw_all := lw_g (lw_at lw_m10 150 rfl) rfl
theorem q2440 : (Jvm.Cond.methodLink "java/lang/AbstractStringBuilder" (131 : Nat) ({ cls := "java/lang/StringIndexOutOfBoundsException", name := "<init>", desc := "(I)V" } : Jvm.MethodName)) ∈ lw_all := lw_g (lw_at lw_m10 152 rfl) rfl
theorem q2457 : (Jvm.Cond.methodLink "java/lang/AbstractStringBuilder" (133 : Nat) ({ cls := "java/lang/StringLatin1", name := "fillNull", desc := "([BII)V" } : Jvm.MethodName)) ∈ lw_all := lw_g (lw_at lw_m10 169 rfl) rfl
theorem q2479 : (Jvm.Cond.methodLink "java/lang/AbstractStringBuilder" (137 : Nat) ({ cls := "java/lang/StringUTF16", name := "fillNull", desc := "([BII)V" } : Jvm.MethodName)) ∈ lw_all := lw_g (lw_at lw_m10 191 rfl) rfl
theorem q2507 : (Jvm.Cond.instanceMethod ({ cls := "java/lang/AbstractStringBuilder", name := "append", desc := "(J)Ljava/lang/AbstractStringBuilder;" } : Jvm.MethodName)) ∈ lw_all := lw_g (lw_at lw_m10 219 rfl) rfl
theorem q2508 : (Jvm.Cond.code ({ cls := "java/lang/AbstractStringBuilder", name := "append", desc := "(J)Ljava/lang/AbstractStringBuilder;" } : Jvm.MethodName) prog_19_method_33_code (5 : Nat) (Option.some (Jvm.ClassFile.FieldType.object "java/lang/AbstractStringBuilder"))) ∈ lw_all := lw_g (lw_at lw_m10 220 rfl) rfl
theorem q2509 : (Jvm.Cond.methodLink "java/lang/AbstractStringBuilder" (254 : Nat) ({ cls := "java/lang/Long", name := "stringSize", desc := "(J)I" } : Jvm.MethodName)) ∈ lw_all := lw_g (lw_at lw_m10 221 rfl) rfl
theorem q2514 : (Jvm.Cond.methodLink "java/lang/AbstractStringBuilder" (259 : Nat) ({ cls := "java/lang/Long", name := "getChars", desc := "(JI[B)I" } : Jvm.MethodName)) ∈ lw_all := lw_g (lw_at lw_m10 226 rfl) rfl
theorem q2521 : (Jvm.Cond.methodLink "java/lang/AbstractStringBuilder" (262 : Nat) ({ cls := "java/lang/StringUTF16", name := "getChars", desc := "(JII[B)I" } : Jvm.MethodName)) ∈ lw_all := lw_g (lw_at lw_m10 233 rfl) rfl
theorem q3237 : (Jvm.Cond.sameMethod "java/lang/AbstractStringBuilder" "java/lang/AbstractStringBuilder" "append" "(Ljava/lang/String;)Ljava/lang/AbstractStringBuilder;") ∈ lw_all := lw_g (lw_at lw_m13 229 rfl) rfl
theorem q3238 : (Jvm.Cond.sameMethod "java/lang/AbstractStringBuilder" "java/lang/AbstractStringBuilder" "appendNull" "()Ljava/lang/AbstractStringBuilder;") ∈ lw_all := lw_g (lw_at lw_m13 230 rfl) rfl
theorem q3239 : (Jvm.Cond.sameMethod "java/lang/AbstractStringBuilder" "java/lang/AbstractStringBuilder" "ensureCapacityInternal" "(I)V") ∈ lw_all := lw_g (lw_at lw_m13 231 rfl) rfl
theorem q3240 : (Jvm.Cond.sameMethod "java/lang/AbstractStringBuilder" "java/lang/AbstractStringBuilder" "newCapacity" "(I)I") ∈ lw_all := lw_g (lw_at lw_m13 232 rfl) rfl
theorem q3241 : (Jvm.Cond.sameMethod "java/lang/AbstractStringBuilder" "java/lang/AbstractStringBuilder" "putStringAt" "(ILjava/lang/String;)V") ∈ lw_all := lw_g (lw_at lw_m13 233 rfl) rfl
theorem q3242 : (Jvm.Cond.sameMethod "java/lang/AbstractStringBuilder" "java/lang/AbstractStringBuilder" "inflateIfNeededFor" "(Ljava/lang/String;)V") ∈ lw_all := lw_g (lw_at lw_m13 234 rfl) rfl
theorem q3243 : (Jvm.Cond.sameMethod "java/lang/AbstractStringBuilder" "java/lang/AbstractStringBuilder" "inflate" "()V") ∈ lw_all := lw_g (lw_at lw_m13 235 rfl) rfl
theorem q3244 : (Jvm.Cond.sameMethod "java/lang/AbstractStringBuilder" "java/lang/AbstractStringBuilder" "append" "(I)Ljava/lang/AbstractStringBuilder;") ∈ lw_all := lw_g (lw_at lw_m13 236 rfl) rfl
theorem q3247 : (Jvm.Cond.sameMethod "java/lang/AbstractStringBuilder" "java/lang/AbstractStringBuilder" "charAt" "(I)C") ∈ lw_all := lw_g (lw_at lw_m13 239 rfl) rfl
theorem q3248 : (Jvm.Cond.sameMethod "java/lang/AbstractStringBuilder" "java/lang/AbstractStringBuilder" "append" "(C)Ljava/lang/AbstractStringBuilder;") ∈ lw_all := lw_g (lw_at lw_m14 0 rfl) rfl
theorem q3249 : (Jvm.Cond.sameMethod "java/lang/AbstractStringBuilder" "java/lang/AbstractStringBuilder" "setLength" "(I)V") ∈ lw_all := lw_g (lw_at lw_m14 1 rfl) rfl
theorem q3250 : (Jvm.Cond.sameMethod "java/lang/AbstractStringBuilder" "java/lang/AbstractStringBuilder" "append" "(J)Ljava/lang/AbstractStringBuilder;") ∈ lw_all := lw_g (lw_at lw_m14 2 rfl) rfl
/-! java/lang/StringBuilder -/
set_option maxRecDepth 100000
def RJ8 : String := "java/lang/StringBuilder"
def TJ8 : u_T := fun k => match k with
  | 0 => ("java/lang/AbstractStringBuilder", "value", "[B", false)
  | 1 => ("java/lang/AbstractStringBuilder", "coder", "B", false)
  | 2 => ("java/lang/AbstractStringBuilder", "maybeLatin1", "Z", false)
  | _ => ("java/lang/AbstractStringBuilder", "count", "I", false)
def tyJ8 : Nat → FieldType := fun k => match k with
  | 0 => .array .byte
  | 1 => .byte
  | 2 => .boolean
  | _ => .int
abbrev wsJ80 : List Cond := u_ws RJ8 TJ8 4
theorem nmJ8 : ∀ a, a < 4 → ∀ b, b < 4 → a ≠ b → (TJ8 a).2.1 ≠ (TJ8 b).2.1 := by decide +kernel
theorem tyJ8_ok : ∀ k, k < 4 → parseFieldDescriptor (TJ8 k).2.2.1 = some (tyJ8 k) := by decide +kernel
abbrev cJ8_init : ByteArray := prog_38_method_1_code
def yJ8_init : MethodName := ⟨RJ8, "<init>", "()V"⟩
def dkwJ8_init_0 : List UInt8 := [42, 16, 16, 183, 0, 1, 177]
abbrev dktJ8_init_0 : List UInt8 := dkwJ8_init_0 ++ []
theorem dksJ8_init_0 : cJ8_init.data.toList.drop 0 = dktJ8_init_0 := by decide +kernel
theorem dJ8_init_0 : decode cJ8_init 0 = .ok (.aload_n 0, 1) := dk_42 (dk_at dksJ8_init_0 0 rfl rfl)
theorem dJ8_init_1 : decode cJ8_init 1 = .ok (.bipush 16, 2) := dk_16 16 (dk_at dksJ8_init_0 1 rfl rfl)
theorem dJ8_init_3 : decode cJ8_init 3 = .ok (.invokespecial 1, 3) := dk_183 0 1 (dk_at dksJ8_init_0 3 rfl rfl)
theorem dJ8_init_6 : decode cJ8_init 6 = .ok (.return_, 1) := dk_177 (dk_at dksJ8_init_0 6 rfl rfl)
abbrev cJ8_append : ByteArray := prog_38_method_7_code
def yJ8_append : MethodName := ⟨RJ8, "append", "(Ljava/lang/String;)Ljava/lang/StringBuilder;"⟩
def dkwJ8_append_0 : List UInt8 := [42, 43, 183, 0, 29, 87, 42, 176]
abbrev dktJ8_append_0 : List UInt8 := dkwJ8_append_0 ++ []
theorem dksJ8_append_0 : cJ8_append.data.toList.drop 0 = dktJ8_append_0 := by decide +kernel
theorem dJ8_append_0 : decode cJ8_append 0 = .ok (.aload_n 0, 1) := dk_42 (dk_at dksJ8_append_0 0 rfl rfl)
theorem dJ8_append_1 : decode cJ8_append 1 = .ok (.aload_n 1, 1) := dk_43 (dk_at dksJ8_append_0 1 rfl rfl)
theorem dJ8_append_2 : decode cJ8_append 2 = .ok (.invokespecial 29, 3) := dk_183 0 29 (dk_at dksJ8_append_0 2 rfl rfl)
theorem dJ8_append_5 : decode cJ8_append 5 = .ok (.pop, 1) := dk_87 (dk_at dksJ8_append_0 5 rfl rfl)
theorem dJ8_append_6 : decode cJ8_append 6 = .ok (.aload_n 0, 1) := dk_42 (dk_at dksJ8_append_0 6 rfl rfl)
theorem dJ8_append_7 : decode cJ8_append 7 = .ok (.areturn, 1) := dk_176 (dk_at dksJ8_append_0 7 rfl rfl)
abbrev cJ8_append_2 : ByteArray := prog_38_method_15_code
def yJ8_append_2 : MethodName := ⟨RJ8, "append", "(I)Ljava/lang/StringBuilder;"⟩
def dkwJ8_append_2_0 : List UInt8 := [42, 27, 183, 0, 53, 87, 42, 176]
abbrev dktJ8_append_2_0 : List UInt8 := dkwJ8_append_2_0 ++ []
theorem dksJ8_append_2_0 : cJ8_append_2.data.toList.drop 0 = dktJ8_append_2_0 := by decide +kernel
theorem dJ8_append_2_0 : decode cJ8_append_2 0 = .ok (.aload_n 0, 1) := dk_42 (dk_at dksJ8_append_2_0 0 rfl rfl)
theorem dJ8_append_2_1 : decode cJ8_append_2 1 = .ok (.iload_n 1, 1) := dk_27 (dk_at dksJ8_append_2_0 1 rfl rfl)
theorem dJ8_append_2_2 : decode cJ8_append_2 2 = .ok (.invokespecial 53, 3) := dk_183 0 53 (dk_at dksJ8_append_2_0 2 rfl rfl)
theorem dJ8_append_2_5 : decode cJ8_append_2 5 = .ok (.pop, 1) := dk_87 (dk_at dksJ8_append_2_0 5 rfl rfl)
theorem dJ8_append_2_6 : decode cJ8_append_2 6 = .ok (.aload_n 0, 1) := dk_42 (dk_at dksJ8_append_2_0 6 rfl rfl)
theorem dJ8_append_2_7 : decode cJ8_append_2 7 = .ok (.areturn, 1) := dk_176 (dk_at dksJ8_append_2_0 7 rfl rfl)
abbrev cJ8_toString : ByteArray := prog_38_method_42_code
def yJ8_toString : MethodName := ⟨RJ8, "toString", "()Ljava/lang/String;"⟩
def dkwJ8_toString_0 : List UInt8 := [187, 0, 18, 89, 42, 183, 0, 137, 176]
abbrev dktJ8_toString_0 : List UInt8 := dkwJ8_toString_0 ++ []
theorem dksJ8_toString_0 : cJ8_toString.data.toList.drop 0 = dktJ8_toString_0 := by decide +kernel
theorem dJ8_toString_0 : decode cJ8_toString 0 = .ok (.new 18, 3) := dk_187 0 18 (dk_at dksJ8_toString_0 0 rfl rfl)
theorem dJ8_toString_3 : decode cJ8_toString 3 = .ok (.dup, 1) := dk_89 (dk_at dksJ8_toString_0 3 rfl rfl)
theorem dJ8_toString_4 : decode cJ8_toString 4 = .ok (.aload_n 0, 1) := dk_42 (dk_at dksJ8_toString_0 4 rfl rfl)
theorem dJ8_toString_5 : decode cJ8_toString 5 = .ok (.invokespecial 137, 3) := dk_183 0 137 (dk_at dksJ8_toString_0 5 rfl rfl)
theorem dJ8_toString_8 : decode cJ8_toString 8 = .ok (.areturn, 1) := dk_176 (dk_at dksJ8_toString_0 8 rfl rfl)
abbrev cJ8_length : ByteArray := prog_38_method_93_code
def yJ8_length : MethodName := ⟨RJ8, "length", "()I"⟩
theorem dJ8_length_0 : decode cJ8_length 0 = .ok (.aload_n 0, 1) := by decide +kernel
theorem dJ8_length_1 : decode cJ8_length 1 = .ok (.invokespecial 343, 3) := by decide +kernel
theorem dJ8_length_4 : decode cJ8_length 4 = .ok (.ireturn, 1) := by decide +kernel
abbrev cJ8_init_2 : ByteArray := prog_38_method_2_code
def yJ8_init_2 : MethodName := ⟨RJ8, "<init>", "(I)V"⟩
def dkwJ8_init_2_0 : List UInt8 := [42, 27, 183, 0, 1, 177]
abbrev dktJ8_init_2_0 : List UInt8 := dkwJ8_init_2_0 ++ []
theorem dksJ8_init_2_0 : cJ8_init_2.data.toList.drop 0 = dktJ8_init_2_0 := by decide +kernel
theorem dJ8_init_2_0 : decode cJ8_init_2 0 = .ok (.aload_n 0, 1) := dk_42 (dk_at dksJ8_init_2_0 0 rfl rfl)
theorem dJ8_init_2_1 : decode cJ8_init_2 1 = .ok (.iload_n 1, 1) := dk_27 (dk_at dksJ8_init_2_0 1 rfl rfl)
theorem dJ8_init_2_2 : decode cJ8_init_2 2 = .ok (.invokespecial 1, 3) := dk_183 0 1 (dk_at dksJ8_init_2_0 2 rfl rfl)
theorem dJ8_init_2_5 : decode cJ8_init_2 5 = .ok (.return_, 1) := dk_177 (dk_at dksJ8_init_2_0 5 rfl rfl)
abbrev cJ8_charAt : ByteArray := prog_38_method_88_code
def yJ8_charAt : MethodName := ⟨RJ8, "charAt", "(I)C"⟩
def dkwJ8_charAt_0 : List UInt8 := [42, 27, 183, 1, 73, 172]
abbrev dktJ8_charAt_0 : List UInt8 := dkwJ8_charAt_0 ++ []
theorem dksJ8_charAt_0 : cJ8_charAt.data.toList.drop 0 = dktJ8_charAt_0 := by decide +kernel
theorem dJ8_charAt_0 : decode cJ8_charAt 0 = .ok (.aload_n 0, 1) := dk_42 (dk_at dksJ8_charAt_0 0 rfl rfl)
theorem dJ8_charAt_1 : decode cJ8_charAt 1 = .ok (.iload_n 1, 1) := dk_27 (dk_at dksJ8_charAt_0 1 rfl rfl)
theorem dJ8_charAt_2 : decode cJ8_charAt 2 = .ok (.invokespecial 329, 3) := dk_183 1 73 (dk_at dksJ8_charAt_0 2 rfl rfl)
theorem dJ8_charAt_5 : decode cJ8_charAt 5 = .ok (.ireturn, 1) := dk_172 (dk_at dksJ8_charAt_0 5 rfl rfl)
abbrev cJ8_append_3 : ByteArray := prog_38_method_14_code
def yJ8_append_3 : MethodName := ⟨RJ8, "append", "(C)Ljava/lang/StringBuilder;"⟩
def dkwJ8_append_3_0 : List UInt8 := [42, 27, 183, 0, 50, 87, 42, 176]
abbrev dktJ8_append_3_0 : List UInt8 := dkwJ8_append_3_0 ++ []
theorem dksJ8_append_3_0 : cJ8_append_3.data.toList.drop 0 = dktJ8_append_3_0 := by decide +kernel
theorem dJ8_append_3_0 : decode cJ8_append_3 0 = .ok (.aload_n 0, 1) := dk_42 (dk_at dksJ8_append_3_0 0 rfl rfl)
theorem dJ8_append_3_1 : decode cJ8_append_3 1 = .ok (.iload_n 1, 1) := dk_27 (dk_at dksJ8_append_3_0 1 rfl rfl)
theorem dJ8_append_3_2 : decode cJ8_append_3 2 = .ok (.invokespecial 50, 3) := dk_183 0 50 (dk_at dksJ8_append_3_0 2 rfl rfl)
theorem dJ8_append_3_5 : decode cJ8_append_3 5 = .ok (.pop, 1) := dk_87 (dk_at dksJ8_append_3_0 5 rfl rfl)
theorem dJ8_append_3_6 : decode cJ8_append_3 6 = .ok (.aload_n 0, 1) := dk_42 (dk_at dksJ8_append_3_0 6 rfl rfl)
theorem dJ8_append_3_7 : decode cJ8_append_3 7 = .ok (.areturn, 1) := dk_176 (dk_at dksJ8_append_3_0 7 rfl rfl)
abbrev cJ8_setLength : ByteArray := prog_38_method_89_code
def yJ8_setLength : MethodName := ⟨RJ8, "setLength", "(I)V"⟩
def dkwJ8_setLength_0 : List UInt8 := [42, 27, 183, 1, 77, 177]
abbrev dktJ8_setLength_0 : List UInt8 := dkwJ8_setLength_0 ++ []
theorem dksJ8_setLength_0 : cJ8_setLength.data.toList.drop 0 = dktJ8_setLength_0 := by decide +kernel
theorem dJ8_setLength_0 : decode cJ8_setLength 0 = .ok (.aload_n 0, 1) := dk_42 (dk_at dksJ8_setLength_0 0 rfl rfl)
theorem dJ8_setLength_1 : decode cJ8_setLength 1 = .ok (.iload_n 1, 1) := dk_27 (dk_at dksJ8_setLength_0 1 rfl rfl)
theorem dJ8_setLength_2 : decode cJ8_setLength 2 = .ok (.invokespecial 333, 3) := dk_183 1 77 (dk_at dksJ8_setLength_0 2 rfl rfl)
theorem dJ8_setLength_5 : decode cJ8_setLength 5 = .ok (.return_, 1) := dk_177 (dk_at dksJ8_setLength_0 5 rfl rfl)
abbrev cJ8_append_4 : ByteArray := prog_38_method_16_code
def yJ8_append_4 : MethodName := ⟨RJ8, "append", "(J)Ljava/lang/StringBuilder;"⟩
def dkwJ8_append_4_0 : List UInt8 := [42, 31, 183, 0, 56, 87, 42, 176]
abbrev dktJ8_append_4_0 : List UInt8 := dkwJ8_append_4_0 ++ []
theorem dksJ8_append_4_0 : cJ8_append_4.data.toList.drop 0 = dktJ8_append_4_0 := by decide +kernel
theorem dJ8_append_4_0 : decode cJ8_append_4 0 = .ok (.aload_n 0, 1) := dk_42 (dk_at dksJ8_append_4_0 0 rfl rfl)
theorem dJ8_append_4_1 : decode cJ8_append_4 1 = .ok (.lload_n 1, 1) := dk_31 (dk_at dksJ8_append_4_0 1 rfl rfl)
theorem dJ8_append_4_2 : decode cJ8_append_4 2 = .ok (.invokespecial 56, 3) := dk_183 0 56 (dk_at dksJ8_append_4_0 2 rfl rfl)
theorem dJ8_append_4_5 : decode cJ8_append_4 5 = .ok (.pop, 1) := dk_87 (dk_at dksJ8_append_4_0 5 rfl rfl)
theorem dJ8_append_4_6 : decode cJ8_append_4 6 = .ok (.aload_n 0, 1) := dk_42 (dk_at dksJ8_append_4_0 6 rfl rfl)
theorem dJ8_append_4_7 : decode cJ8_append_4 7 = .ok (.areturn, 1) := dk_176 (dk_at dksJ8_append_4_0 7 rfl rfl)
theorem q139 : (Jvm.Cond.initialized "java/lang/StringBuilder") ∈ lw_all := lw_g (lw_at lw_m1 11 rfl) rfl
theorem q251 : (Jvm.Cond.instantiable "java/lang/StringBuilder" (4 : Nat)) ∈ lw_all := lw_g (lw_at lw_m1 123 rfl) rfl
theorem q253 : (Jvm.Cond.instanceMethod ({ cls := "java/lang/StringBuilder", name := "<init>", desc := "()V" } : Jvm.MethodName)) ∈ lw_all := lw_g (lw_at lw_m1 125 rfl) rfl
theorem q254 : (Jvm.Cond.code ({ cls := "java/lang/StringBuilder", name := "<init>", desc := "()V" } : Jvm.MethodName) prog_38_method_1_code (1 : Nat) (Option.none : Option Jvm.ClassFile.FieldType)) ∈ lw_all := lw_g (lw_at lw_m1 126 rfl) rfl
theorem q255 : (Jvm.Cond.methodLink "java/lang/StringBuilder" (1 : Nat) ({ cls := "java/lang/AbstractStringBuilder", name := "<init>", desc := "(I)V" } : Jvm.MethodName)) ∈ lw_all := lw_g (lw_at lw_m1 127 rfl) rfl
theorem q273 : (Jvm.Cond.lays "java/lang/StringBuilder" "java/lang/AbstractStringBuilder" "value" "[B") ∈ lw_all := lw_g (lw_at lw_m1 145 rfl) rfl
theorem q275 : (Jvm.Cond.lays "java/lang/StringBuilder" "java/lang/AbstractStringBuilder" "coder" "B") ∈ lw_all := lw_g (lw_at lw_m1 147 rfl) rfl
theorem q277 : (Jvm.Cond.lays "java/lang/StringBuilder" "java/lang/AbstractStringBuilder" "maybeLatin1" "Z") ∈ lw_all := lw_g (lw_at lw_m1 149 rfl) rfl
theorem q279 : (Jvm.Cond.lays "java/lang/StringBuilder" "java/lang/AbstractStringBuilder" "count" "I") ∈ lw_all := lw_g (lw_at lw_m1 151 rfl) rfl
theorem q281 : (Jvm.Cond.superclass "java/lang/StringBuilder" "java/lang/AbstractStringBuilder") ∈ lw_all := lw_g (lw_at lw_m1 153 rfl) rfl
theorem q285 : (Jvm.Cond.instanceMethod ({ cls := "java/lang/StringBuilder", name := "append", desc := "(Ljava/lang/String;)Ljava/lang/StringBuilder;" } : Jvm.MethodName)) ∈ lw_all := lw_g (lw_at lw_m1 157 rfl) rfl
theorem q286 : (Jvm.Cond.selects "java/lang/StringBuilder" ({ cls := "java/lang/StringBuilder", name := "append", desc := "(Ljava/lang/String;)Ljava/lang/StringBuilder;" } : Jvm.MethodName) ({ cls := "java/lang/StringBuilder", name := "append", desc := "(Ljava/lang/String;)Ljava/lang/StringBuilder;" } : Jvm.MethodName)) ∈ lw_all := lw_g (lw_at lw_m1 158 rfl) rfl
theorem q287 : (Jvm.Cond.code ({ cls := "java/lang/StringBuilder", name := "append", desc := "(Ljava/lang/String;)Ljava/lang/StringBuilder;" } : Jvm.MethodName) prog_38_method_7_code (2 : Nat) (Option.some (Jvm.ClassFile.FieldType.object "java/lang/StringBuilder"))) ∈ lw_all := lw_g (lw_at lw_m1 159 rfl) rfl
theorem q288 : (Jvm.Cond.methodLink "java/lang/StringBuilder" (29 : Nat) ({ cls := "java/lang/AbstractStringBuilder", name := "append", desc := "(Ljava/lang/String;)Ljava/lang/AbstractStringBuilder;" } : Jvm.MethodName)) ∈ lw_all := lw_g (lw_at lw_m1 160 rfl) rfl
theorem q333 : (Jvm.Cond.selects "java/lang/StringBuilder" ({ cls := "java/lang/AbstractStringBuilder", name := "isLatin1", desc := "()Z" } : Jvm.MethodName) ({ cls := "java/lang/AbstractStringBuilder", name := "isLatin1", desc := "()Z" } : Jvm.MethodName)) ∈ lw_all := lw_g (lw_at lw_m1 205 rfl) rfl
theorem q405 : (Jvm.Cond.instanceMethod ({ cls := "java/lang/StringBuilder", name := "append", desc := "(I)Ljava/lang/StringBuilder;" } : Jvm.MethodName)) ∈ lw_all := lw_g (lw_at lw_m2 37 rfl) rfl
theorem q406 : (Jvm.Cond.selects "java/lang/StringBuilder" ({ cls := "java/lang/StringBuilder", name := "append", desc := "(I)Ljava/lang/StringBuilder;" } : Jvm.MethodName) ({ cls := "java/lang/StringBuilder", name := "append", desc := "(I)Ljava/lang/StringBuilder;" } : Jvm.MethodName)) ∈ lw_all := lw_g (lw_at lw_m2 38 rfl) rfl
theorem q407 : (Jvm.Cond.code ({ cls := "java/lang/StringBuilder", name := "append", desc := "(I)Ljava/lang/StringBuilder;" } : Jvm.MethodName) prog_38_method_15_code (2 : Nat) (Option.some (Jvm.ClassFile.FieldType.object "java/lang/StringBuilder"))) ∈ lw_all := lw_g (lw_at lw_m2 39 rfl) rfl
theorem q408 : (Jvm.Cond.methodLink "java/lang/StringBuilder" (53 : Nat) ({ cls := "java/lang/AbstractStringBuilder", name := "append", desc := "(I)Ljava/lang/AbstractStringBuilder;" } : Jvm.MethodName)) ∈ lw_all := lw_g (lw_at lw_m2 40 rfl) rfl
theorem q430 : (Jvm.Cond.instanceMethod ({ cls := "java/lang/StringBuilder", name := "toString", desc := "()Ljava/lang/String;" } : Jvm.MethodName)) ∈ lw_all := lw_g (lw_at lw_m2 62 rfl) rfl
theorem q431 : (Jvm.Cond.selects "java/lang/StringBuilder" ({ cls := "java/lang/StringBuilder", name := "toString", desc := "()Ljava/lang/String;" } : Jvm.MethodName) ({ cls := "java/lang/StringBuilder", name := "toString", desc := "()Ljava/lang/String;" } : Jvm.MethodName)) ∈ lw_all := lw_g (lw_at lw_m2 63 rfl) rfl
theorem q432 : (Jvm.Cond.code ({ cls := "java/lang/StringBuilder", name := "toString", desc := "()Ljava/lang/String;" } : Jvm.MethodName) prog_38_method_42_code (1 : Nat) (Option.some (Jvm.ClassFile.FieldType.object "java/lang/String"))) ∈ lw_all := lw_g (lw_at lw_m2 64 rfl) rfl
theorem q433 : (Jvm.Cond.classLink "java/lang/StringBuilder" (18 : Nat) "java/lang/String") ∈ lw_all := lw_g (lw_at lw_m2 65 rfl) rfl
theorem q435 : (Jvm.Cond.methodLink "java/lang/StringBuilder" (137 : Nat) ({ cls := "java/lang/String", name := "<init>", desc := "(Ljava/lang/StringBuilder;)V" } : Jvm.MethodName)) ∈ lw_all := lw_g (lw_at lw_m2 67 rfl) rfl
theorem q445 : (Jvm.Cond.selects "java/lang/StringBuilder" ({ cls := "java/lang/AbstractStringBuilder", name := "getValue", desc := "()[B" } : Jvm.MethodName) ({ cls := "java/lang/AbstractStringBuilder", name := "getValue", desc := "()[B" } : Jvm.MethodName)) ∈ lw_all := lw_g (lw_at lw_m2 77 rfl) rfl
theorem q450 : (Jvm.Cond.selects "java/lang/StringBuilder" ({ cls := "java/lang/AbstractStringBuilder", name := "length", desc := "()I" } : Jvm.MethodName) ({ cls := "java/lang/StringBuilder", name := "length", desc := "()I" } : Jvm.MethodName)) ∈ lw_all := lw_g (lw_at lw_m2 82 rfl) rfl
theorem q451 : (Jvm.Cond.instanceMethod ({ cls := "java/lang/StringBuilder", name := "length", desc := "()I" } : Jvm.MethodName)) ∈ lw_all := lw_g (lw_at lw_m2 83 rfl) rfl
theorem q452 : (Jvm.Cond.code ({ cls := "java/lang/StringBuilder", name := "length", desc := "()I" } : Jvm.MethodName) prog_38_method_93_code (1 : Nat) (Option.some Jvm.ClassFile.FieldType.int)) ∈ lw_all := lw_g (lw_at lw_m2 84 rfl) rfl
theorem q453 : (Jvm.Cond.methodLink "java/lang/StringBuilder" (343 : Nat) ({ cls := "java/lang/AbstractStringBuilder", name := "length", desc := "()I" } : Jvm.MethodName)) ∈ lw_all := lw_g (lw_at lw_m2 85 rfl) rfl
theorem q685 : (Jvm.Cond.instanceMethod ({ cls := "java/lang/StringBuilder", name := "<init>", desc := "(I)V" } : Jvm.MethodName)) ∈ lw_all := lw_g (lw_at lw_m3 77 rfl) rfl
theorem q686 : (Jvm.Cond.code ({ cls := "java/lang/StringBuilder", name := "<init>", desc := "(I)V" } : Jvm.MethodName) prog_38_method_2_code (2 : Nat) (Option.none : Option Jvm.ClassFile.FieldType)) ∈ lw_all := lw_g (lw_at lw_m3 78 rfl) rfl
theorem q1013 : (Jvm.Cond.selects "java/lang/StringBuilder" ({ cls := "java/lang/Object", name := "getClass", desc := "()Ljava/lang/Class;" } : Jvm.MethodName) ({ cls := "java/lang/Object", name := "getClass", desc := "()Ljava/lang/Class;" } : Jvm.MethodName)) ∈ lw_all := lw_g (lw_at lw_m4 165 rfl) rfl
theorem q1093 : (Jvm.Cond.instanceMethod ({ cls := "java/lang/StringBuilder", name := "charAt", desc := "(I)C" } : Jvm.MethodName)) ∈ lw_all := lw_g (lw_at lw_m5 5 rfl) rfl
theorem q1094 : (Jvm.Cond.selects "java/lang/StringBuilder" ({ cls := "java/lang/StringBuilder", name := "charAt", desc := "(I)C" } : Jvm.MethodName) ({ cls := "java/lang/StringBuilder", name := "charAt", desc := "(I)C" } : Jvm.MethodName)) ∈ lw_all := lw_g (lw_at lw_m5 6 rfl) rfl
theorem q1095 : (Jvm.Cond.code ({ cls := "java/lang/StringBuilder", name := "charAt", desc := "(I)C" } : Jvm.MethodName) prog_38_method_88_code (2 : Nat) (Option.some Jvm.ClassFile.FieldType.char)) ∈ lw_all := lw_g (lw_at lw_m5 7 rfl) rfl
theorem q1096 : (Jvm.Cond.methodLink "java/lang/StringBuilder" (329 : Nat) ({ cls := "java/lang/AbstractStringBuilder", name := "charAt", desc := "(I)C" } : Jvm.MethodName)) ∈ lw_all := lw_g (lw_at lw_m5 8 rfl) rfl
theorem q1122 : (Jvm.Cond.instanceMethod ({ cls := "java/lang/StringBuilder", name := "append", desc := "(C)Ljava/lang/StringBuilder;" } : Jvm.MethodName)) ∈ lw_all := lw_g (lw_at lw_m5 34 rfl) rfl
theorem q1123 : (Jvm.Cond.selects "java/lang/StringBuilder" ({ cls := "java/lang/StringBuilder", name := "append", desc := "(C)Ljava/lang/StringBuilder;" } : Jvm.MethodName) ({ cls := "java/lang/StringBuilder", name := "append", desc := "(C)Ljava/lang/StringBuilder;" } : Jvm.MethodName)) ∈ lw_all := lw_g (lw_at lw_m5 35 rfl) rfl
theorem q1124 : (Jvm.Cond.code ({ cls := "java/lang/StringBuilder", name := "append", desc := "(C)Ljava/lang/StringBuilder;" } : Jvm.MethodName) prog_38_method_14_code (2 : Nat) (Option.some (Jvm.ClassFile.FieldType.object "java/lang/StringBuilder"))) ∈ lw_all := lw_g (lw_at lw_m5 36 rfl) rfl
theorem q1125 : (Jvm.Cond.methodLink "java/lang/StringBuilder" (50 : Nat) ({ cls := "java/lang/AbstractStringBuilder", name := "append", desc := "(C)Ljava/lang/AbstractStringBuilder;" } : Jvm.MethodName)) ∈ lw_all := lw_g (lw_at lw_m5 37 rfl) rfl
theorem q1161 : (Jvm.Cond.selects "java/lang/StringBuilder" ({ cls := "java/lang/AbstractStringBuilder", name := "getCoder", desc := "()B" } : Jvm.MethodName) ({ cls := "java/lang/AbstractStringBuilder", name := "getCoder", desc := "()B" } : Jvm.MethodName)) ∈ lw_all := lw_g (lw_at lw_m5 73 rfl) rfl
theorem q1286 : (Jvm.Cond.castable "java/lang/StringBuilder" "java/lang/CharSequence") ∈ lw_tbl := lw_at lw_m5 198 rfl
theorem q1287 : (Jvm.Cond.selects "java/lang/StringBuilder" ({ cls := "java/lang/CharSequence", name := "length", desc := "()I" } : Jvm.MethodName) ({ cls := "java/lang/StringBuilder", name := "length", desc := "()I" } : Jvm.MethodName)) ∈ lw_all := lw_g (lw_at lw_m5 199 rfl) rfl
theorem q1288 : (Jvm.Cond.unhidden "java/lang/StringBuilder" "length" "()I") ∈ lw_tbl := lw_at lw_m5 200 rfl
theorem q1289 : (Jvm.Cond.publicMethod ({ cls := "java/lang/StringBuilder", name := "length", desc := "()I" } : Jvm.MethodName)) ∈ lw_tbl := lw_at lw_m5 201 rfl
theorem q1310 : (Jvm.Cond.selects "java/lang/StringBuilder" ({ cls := "java/lang/CharSequence", name := "charAt", desc := "(I)C" } : Jvm.MethodName) ({ cls := "java/lang/StringBuilder", name := "charAt", desc := "(I)C" } : Jvm.MethodName)) ∈ lw_all := lw_g (lw_at lw_m5 222 rfl) rfl
theorem q1311 : (Jvm.Cond.unhidden "java/lang/StringBuilder" "charAt" "(I)C") ∈ lw_tbl := lw_at lw_m5 223 rfl
theorem q1312 : (Jvm.Cond.publicMethod ({ cls := "java/lang/StringBuilder", name := "charAt", desc := "(I)C" } : Jvm.MethodName)) ∈ lw_tbl := lw_at lw_m5 224 rfl
theorem q2432 : (Jvm.Cond.instanceMethod ({ cls := "java/lang/StringBuilder", name := "setLength", desc := "(I)V" } : Jvm.MethodName)) ∈ lw_all := lw_g (lw_at lw_m10 144 rfl) rfl
theorem q2433 : (Jvm.Cond.selects "java/lang/StringBuilder" ({ cls := "java/lang/StringBuilder", name := "setLength", desc := "(I)V" } : Jvm.MethodName) ({ cls := "java/lang/StringBuilder", name := "setLength", desc := "(I)V" } : Jvm.MethodName)) ∈ lw_all := lw_g (lw_at lw_m10 145 rfl) rfl
theorem q2434 : (Jvm.Cond.code ({ cls := "java/lang/StringBuilder", name := "setLength", desc := "(I)V" } : Jvm.MethodName) prog_38_method_89_code (2 : Nat) (Option.none : Option Jvm.ClassFile.FieldType)) ∈ lw_all := lw_g (lw_at lw_m10 146 rfl) rfl
theorem q2435 : (Jvm.Cond.methodLink "java/lang/StringBuilder" (333 : Nat) ({ cls := "java/lang/AbstractStringBuilder", name := "setLength", desc := "(I)V" } : Jvm.MethodName)) ∈ lw_all := lw_g (lw_at lw_m10 147 rfl) rfl
theorem q2503 : (Jvm.Cond.instanceMethod ({ cls := "java/lang/StringBuilder", name := "append", desc := "(J)Ljava/lang/StringBuilder;" } : Jvm.MethodName)) ∈ lw_all := lw_g (lw_at lw_m10 215 rfl) rfl
theorem q2504 : (Jvm.Cond.selects "java/lang/StringBuilder" ({ cls := "java/lang/StringBuilder", name := "append", desc := "(J)Ljava/lang/StringBuilder;" } : Jvm.MethodName) ({ cls := "java/lang/StringBuilder", name := "append", desc := "(J)Ljava/lang/StringBuilder;" } : Jvm.MethodName)) ∈ lw_all := lw_g (lw_at lw_m10 216 rfl) rfl
theorem q2505 : (Jvm.Cond.code ({ cls := "java/lang/StringBuilder", name := "append", desc := "(J)Ljava/lang/StringBuilder;" } : Jvm.MethodName) prog_38_method_16_code (3 : Nat) (Option.some (Jvm.ClassFile.FieldType.object "java/lang/StringBuilder"))) ∈ lw_all := lw_g (lw_at lw_m10 217 rfl) rfl
theorem q2506 : (Jvm.Cond.methodLink "java/lang/StringBuilder" (56 : Nat) ({ cls := "java/lang/AbstractStringBuilder", name := "append", desc := "(J)Ljava/lang/AbstractStringBuilder;" } : Jvm.MethodName)) ∈ lw_all := lw_g (lw_at lw_m10 218 rfl) rfl
theorem q3246 : (Jvm.Cond.selects "java/lang/StringBuilder" ({ cls := "java/lang/StringBuilder", name := "length", desc := "()I" } : Jvm.MethodName) ({ cls := "java/lang/StringBuilder", name := "length", desc := "()I" } : Jvm.MethodName)) ∈ lw_all := lw_g (lw_at lw_m13 238 rfl) rfl
theorem q3254 : (Jvm.Cond.castable "java/lang/StringBuilder" "java/lang/AbstractStringBuilder") ∈ lw_tbl := lw_at lw_m14 6 rfl
theorem q3260 : (Jvm.Cond.castable "java/lang/StringBuilder" "java/lang/Object") ∈ lw_tbl := lw_at lw_m14 12 rfl
theorem in_J8 : ∀ w ∈ wsJ80, w ∈ lw_all := lw_in wsJ80 [273, 275, 277, 279] (by decide +kernel) (by decide +kernel)
/-! java/lang/String -/
set_option maxRecDepth 100000
def RJ9 : String := "java/lang/String"
def TJ9 : u_T := fun k => match k with
  | 0 => ("java/lang/String", "value", "[B", true)
  | 1 => ("java/lang/String", "coder", "B", true)
  | 2 => ("java/lang/String", "hash", "I", false)
  | _ => ("java/lang/String", "hashIsZero", "Z", false)
def tyJ9 : Nat → FieldType := fun k => match k with
  | 0 => .array .byte
  | 1 => .byte
  | 2 => .int
  | _ => .boolean
abbrev wsJ90 : List Cond := u_ws RJ9 TJ9 4
theorem nmJ9 : ∀ a, a < 4 → ∀ b, b < 4 → a ≠ b → (TJ9 a).2.1 ≠ (TJ9 b).2.1 := by decide +kernel
theorem tyJ9_ok : ∀ k, k < 4 → parseFieldDescriptor (TJ9 k).2.2.1 = some (tyJ9 k) := by decide +kernel
abbrev cJ9_checkBoundsBeginEnd : ByteArray := prog_36_method_158_code
def yJ9_checkBoundsBeginEnd : MethodName := ⟨RJ9, "checkBoundsBeginEnd", "(III)V"⟩
def dkwJ9_checkBoundsBeginEnd_0 : List UInt8 := [26, 27, 28, 178, 4, 29, 184, 4, 38, 87, 177]
abbrev dktJ9_checkBoundsBeginEnd_0 : List UInt8 := dkwJ9_checkBoundsBeginEnd_0 ++ []
theorem dksJ9_checkBoundsBeginEnd_0 : cJ9_checkBoundsBeginEnd.data.toList.drop 0 = dktJ9_checkBoundsBeginEnd_0 := by decide +kernel
theorem dJ9_checkBoundsBeginEnd_0 : decode cJ9_checkBoundsBeginEnd 0 = .ok (.iload_n 0, 1) := dk_26 (dk_at dksJ9_checkBoundsBeginEnd_0 0 rfl rfl)
theorem dJ9_checkBoundsBeginEnd_1 : decode cJ9_checkBoundsBeginEnd 1 = .ok (.iload_n 1, 1) := dk_27 (dk_at dksJ9_checkBoundsBeginEnd_0 1 rfl rfl)
theorem dJ9_checkBoundsBeginEnd_2 : decode cJ9_checkBoundsBeginEnd 2 = .ok (.iload_n 2, 1) := dk_28 (dk_at dksJ9_checkBoundsBeginEnd_0 2 rfl rfl)
theorem dJ9_checkBoundsBeginEnd_3 : decode cJ9_checkBoundsBeginEnd 3 = .ok (.getstatic 1053, 3) := dk_178 4 29 (dk_at dksJ9_checkBoundsBeginEnd_0 3 rfl rfl)
theorem dJ9_checkBoundsBeginEnd_6 : decode cJ9_checkBoundsBeginEnd 6 = .ok (.invokestatic 1062, 3) := dk_184 4 38 (dk_at dksJ9_checkBoundsBeginEnd_0 6 rfl rfl)
theorem dJ9_checkBoundsBeginEnd_9 : decode cJ9_checkBoundsBeginEnd 9 = .ok (.pop, 1) := dk_87 (dk_at dksJ9_checkBoundsBeginEnd_0 9 rfl rfl)
theorem dJ9_checkBoundsBeginEnd_10 : decode cJ9_checkBoundsBeginEnd 10 = .ok (.return_, 1) := dk_177 (dk_at dksJ9_checkBoundsBeginEnd_0 10 rfl rfl)
abbrev cJ9_length : ByteArray := prog_36_method_54_code
def yJ9_length : MethodName := ⟨RJ9, "length", "()I"⟩
def dkwJ9_length_0 : List UInt8 := [42, 180, 0, 9, 190, 42, 182, 1, 79, 122, 172]
abbrev dktJ9_length_0 : List UInt8 := dkwJ9_length_0 ++ []
theorem dksJ9_length_0 : cJ9_length.data.toList.drop 0 = dktJ9_length_0 := by decide +kernel
theorem dJ9_length_0 : decode cJ9_length 0 = .ok (.aload_n 0, 1) := dk_42 (dk_at dksJ9_length_0 0 rfl rfl)
theorem dJ9_length_1 : decode cJ9_length 1 = .ok (.getfield 9, 3) := dk_180 0 9 (dk_at dksJ9_length_0 1 rfl rfl)
theorem dJ9_length_4 : decode cJ9_length 4 = .ok (.arraylength, 1) := dk_190 (dk_at dksJ9_length_0 4 rfl rfl)
theorem dJ9_length_5 : decode cJ9_length 5 = .ok (.aload_n 0, 1) := dk_42 (dk_at dksJ9_length_0 5 rfl rfl)
theorem dJ9_length_6 : decode cJ9_length 6 = .ok (.invokevirtual 335, 3) := dk_182 1 79 (dk_at dksJ9_length_0 6 rfl rfl)
theorem dJ9_length_9 : decode cJ9_length 9 = .ok (.ishr, 1) := dk_122 (dk_at dksJ9_length_0 9 rfl rfl)
theorem dJ9_length_10 : decode cJ9_length 10 = .ok (.ireturn, 1) := dk_172 (dk_at dksJ9_length_0 10 rfl rfl)
abbrev cJ9_coder : ByteArray := prog_36_method_152_code
def yJ9_coder : MethodName := ⟨RJ9, "coder", "()B"⟩
def dkwJ9_coder_0 : List UInt8 := [178, 0, 38, 153, 0, 10, 42, 180, 0, 15, 167, 0, 4, 4, 172]
abbrev dktJ9_coder_0 : List UInt8 := dkwJ9_coder_0 ++ []
theorem dksJ9_coder_0 : cJ9_coder.data.toList.drop 0 = dktJ9_coder_0 := by decide +kernel
theorem dJ9_coder_0 : decode cJ9_coder 0 = .ok (.getstatic 38, 3) := dk_178 0 38 (dk_at dksJ9_coder_0 0 rfl rfl)
theorem dJ9_coder_3 : decode cJ9_coder 3 = .ok (.ifCond .eq 10, 3) := dk_153 0 10 (dk_at dksJ9_coder_0 3 rfl rfl)
theorem dJ9_coder_6 : decode cJ9_coder 6 = .ok (.aload_n 0, 1) := dk_42 (dk_at dksJ9_coder_0 6 rfl rfl)
theorem dJ9_coder_7 : decode cJ9_coder 7 = .ok (.getfield 15, 3) := dk_180 0 15 (dk_at dksJ9_coder_0 7 rfl rfl)
theorem dJ9_coder_10 : decode cJ9_coder 10 = .ok (.goto 4, 3) := dk_167 0 4 (dk_at dksJ9_coder_0 10 rfl rfl)
theorem dJ9_coder_13 : decode cJ9_coder 13 = .ok (.iconst 1, 1) := dk_4 (dk_at dksJ9_coder_0 13 rfl rfl)
theorem dJ9_coder_14 : decode cJ9_coder 14 = .ok (.ireturn, 1) := dk_172 (dk_at dksJ9_coder_0 14 rfl rfl)
abbrev cJ9_checkBoundsOffCount : ByteArray := prog_36_method_157_code
def yJ9_checkBoundsOffCount : MethodName := ⟨RJ9, "checkBoundsOffCount", "(III)I"⟩
def dkwJ9_checkBoundsOffCount_0 : List UInt8 := [26, 27, 28, 178, 4, 29, 184, 4, 41, 172]
abbrev dktJ9_checkBoundsOffCount_0 : List UInt8 := dkwJ9_checkBoundsOffCount_0 ++ []
theorem dksJ9_checkBoundsOffCount_0 : cJ9_checkBoundsOffCount.data.toList.drop 0 = dktJ9_checkBoundsOffCount_0 := by decide +kernel
theorem dJ9_checkBoundsOffCount_0 : decode cJ9_checkBoundsOffCount 0 = .ok (.iload_n 0, 1) := dk_26 (dk_at dksJ9_checkBoundsOffCount_0 0 rfl rfl)
theorem dJ9_checkBoundsOffCount_1 : decode cJ9_checkBoundsOffCount 1 = .ok (.iload_n 1, 1) := dk_27 (dk_at dksJ9_checkBoundsOffCount_0 1 rfl rfl)
theorem dJ9_checkBoundsOffCount_2 : decode cJ9_checkBoundsOffCount 2 = .ok (.iload_n 2, 1) := dk_28 (dk_at dksJ9_checkBoundsOffCount_0 2 rfl rfl)
theorem dJ9_checkBoundsOffCount_3 : decode cJ9_checkBoundsOffCount 3 = .ok (.getstatic 1053, 3) := dk_178 4 29 (dk_at dksJ9_checkBoundsOffCount_0 3 rfl rfl)
theorem dJ9_checkBoundsOffCount_6 : decode cJ9_checkBoundsOffCount 6 = .ok (.invokestatic 1065, 3) := dk_184 4 41 (dk_at dksJ9_checkBoundsOffCount_0 6 rfl rfl)
theorem dJ9_checkBoundsOffCount_9 : decode cJ9_checkBoundsOffCount 9 = .ok (.ireturn, 1) := dk_172 (dk_at dksJ9_checkBoundsOffCount_0 9 rfl rfl)
abbrev cJ9_getBytes : ByteArray := prog_36_method_147_code
def yJ9_getBytes : MethodName := ⟨RJ9, "getBytes", "([BIB)V"⟩
def dkwJ9_getBytes_1 : List UInt8 := [184, 0, 212, 167, 0, 18, 42, 180, 0, 9, 3, 43, 28, 42, 180, 0, 9, 190, 184, 0, 106, 177]
abbrev dktJ9_getBytes_1 : List UInt8 := dkwJ9_getBytes_1 ++ []
def dkwJ9_getBytes_0 : List UInt8 := [42, 182, 1, 79, 29, 160, 0, 23, 42, 180, 0, 9, 3, 43, 28, 29, 120, 42, 180, 0, 9, 190]
abbrev dktJ9_getBytes_0 : List UInt8 := dkwJ9_getBytes_0 ++ dktJ9_getBytes_1
theorem dksJ9_getBytes_0 : cJ9_getBytes.data.toList.drop 0 = dktJ9_getBytes_0 := by decide +kernel
theorem dksJ9_getBytes_1 : cJ9_getBytes.data.toList.drop 22 = dktJ9_getBytes_1 := dk_seg dksJ9_getBytes_0 22 rfl rfl
theorem dJ9_getBytes_0 : decode cJ9_getBytes 0 = .ok (.aload_n 0, 1) := dk_42 (dk_at dksJ9_getBytes_0 0 rfl rfl)
theorem dJ9_getBytes_1 : decode cJ9_getBytes 1 = .ok (.invokevirtual 335, 3) := dk_182 1 79 (dk_at dksJ9_getBytes_0 1 rfl rfl)
theorem dJ9_getBytes_4 : decode cJ9_getBytes 4 = .ok (.iload_n 3, 1) := dk_29 (dk_at dksJ9_getBytes_0 4 rfl rfl)
theorem dJ9_getBytes_5 : decode cJ9_getBytes 5 = .ok (.if_icmp .ne 23, 3) := dk_160 0 23 (dk_at dksJ9_getBytes_0 5 rfl rfl)
theorem dJ9_getBytes_8 : decode cJ9_getBytes 8 = .ok (.aload_n 0, 1) := dk_42 (dk_at dksJ9_getBytes_0 8 rfl rfl)
theorem dJ9_getBytes_9 : decode cJ9_getBytes 9 = .ok (.getfield 9, 3) := dk_180 0 9 (dk_at dksJ9_getBytes_0 9 rfl rfl)
theorem dJ9_getBytes_12 : decode cJ9_getBytes 12 = .ok (.iconst 0, 1) := dk_3 (dk_at dksJ9_getBytes_0 12 rfl rfl)
theorem dJ9_getBytes_13 : decode cJ9_getBytes 13 = .ok (.aload_n 1, 1) := dk_43 (dk_at dksJ9_getBytes_0 13 rfl rfl)
theorem dJ9_getBytes_14 : decode cJ9_getBytes 14 = .ok (.iload_n 2, 1) := dk_28 (dk_at dksJ9_getBytes_0 14 rfl rfl)
theorem dJ9_getBytes_15 : decode cJ9_getBytes 15 = .ok (.iload_n 3, 1) := dk_29 (dk_at dksJ9_getBytes_0 15 rfl rfl)
theorem dJ9_getBytes_16 : decode cJ9_getBytes 16 = .ok (.ishl, 1) := dk_120 (dk_at dksJ9_getBytes_0 16 rfl rfl)
theorem dJ9_getBytes_17 : decode cJ9_getBytes 17 = .ok (.aload_n 0, 1) := dk_42 (dk_at dksJ9_getBytes_0 17 rfl rfl)
theorem dJ9_getBytes_18 : decode cJ9_getBytes 18 = .ok (.getfield 9, 3) := dk_180 0 9 (dk_at dksJ9_getBytes_0 18 rfl rfl)
theorem dJ9_getBytes_21 : decode cJ9_getBytes 21 = .ok (.arraylength, 1) := dk_190 (dk_at dksJ9_getBytes_0 21 rfl rfl)
theorem dJ9_getBytes_22 : decode cJ9_getBytes 22 = .ok (.invokestatic 212, 3) := dk_184 0 212 (dk_at dksJ9_getBytes_1 0 rfl rfl)
theorem dJ9_getBytes_25 : decode cJ9_getBytes 25 = .ok (.goto 18, 3) := dk_167 0 18 (dk_at dksJ9_getBytes_1 3 rfl rfl)
theorem dJ9_getBytes_28 : decode cJ9_getBytes 28 = .ok (.aload_n 0, 1) := dk_42 (dk_at dksJ9_getBytes_1 6 rfl rfl)
theorem dJ9_getBytes_29 : decode cJ9_getBytes 29 = .ok (.getfield 9, 3) := dk_180 0 9 (dk_at dksJ9_getBytes_1 7 rfl rfl)
theorem dJ9_getBytes_32 : decode cJ9_getBytes 32 = .ok (.iconst 0, 1) := dk_3 (dk_at dksJ9_getBytes_1 10 rfl rfl)
theorem dJ9_getBytes_33 : decode cJ9_getBytes 33 = .ok (.aload_n 1, 1) := dk_43 (dk_at dksJ9_getBytes_1 11 rfl rfl)
theorem dJ9_getBytes_34 : decode cJ9_getBytes 34 = .ok (.iload_n 2, 1) := dk_28 (dk_at dksJ9_getBytes_1 12 rfl rfl)
theorem dJ9_getBytes_35 : decode cJ9_getBytes 35 = .ok (.aload_n 0, 1) := dk_42 (dk_at dksJ9_getBytes_1 13 rfl rfl)
theorem dJ9_getBytes_36 : decode cJ9_getBytes 36 = .ok (.getfield 9, 3) := dk_180 0 9 (dk_at dksJ9_getBytes_1 14 rfl rfl)
theorem dJ9_getBytes_39 : decode cJ9_getBytes 39 = .ok (.arraylength, 1) := dk_190 (dk_at dksJ9_getBytes_1 17 rfl rfl)
theorem dJ9_getBytes_40 : decode cJ9_getBytes 40 = .ok (.invokestatic 106, 3) := dk_184 0 106 (dk_at dksJ9_getBytes_1 18 rfl rfl)
theorem dJ9_getBytes_43 : decode cJ9_getBytes 43 = .ok (.return_, 1) := dk_177 (dk_at dksJ9_getBytes_1 21 rfl rfl)
abbrev cJ9_init : ByteArray := prog_36_method_53_code
def yJ9_init : MethodName := ⟨RJ9, "<init>", "(Ljava/lang/StringBuilder;)V"⟩
def dkwJ9_init_0 : List UInt8 := [42, 43, 1, 183, 1, 233, 177]
abbrev dktJ9_init_0 : List UInt8 := dkwJ9_init_0 ++ []
theorem dksJ9_init_0 : cJ9_init.data.toList.drop 0 = dktJ9_init_0 := by decide +kernel
theorem dJ9_init_0 : decode cJ9_init 0 = .ok (.aload_n 0, 1) := dk_42 (dk_at dksJ9_init_0 0 rfl rfl)
theorem dJ9_init_1 : decode cJ9_init 1 = .ok (.aload_n 1, 1) := dk_43 (dk_at dksJ9_init_0 1 rfl rfl)
theorem dJ9_init_2 : decode cJ9_init 2 = .ok (.aconst_null, 1) := dk_1 (dk_at dksJ9_init_0 2 rfl rfl)
theorem dJ9_init_3 : decode cJ9_init 3 = .ok (.invokespecial 489, 3) := dk_183 1 233 (dk_at dksJ9_init_0 3 rfl rfl)
theorem dJ9_init_6 : decode cJ9_init 6 = .ok (.return_, 1) := dk_177 (dk_at dksJ9_init_0 6 rfl rfl)
abbrev cJ9_init_2 : ByteArray := prog_36_method_150_code
def yJ9_init_2 : MethodName := ⟨RJ9, "<init>", "(Ljava/lang/AbstractStringBuilder;Ljava/lang/Void;)V"⟩
def dkwJ9_init_2_4 : List UInt8 := [181, 0, 9, 177]
abbrev dktJ9_init_2_4 : List UInt8 := dkwJ9_init_2_4 ++ []
def dkwJ9_init_2_3 : List UInt8 := [184, 0, 47, 181, 0, 15, 177, 42, 4, 181, 0, 15, 42, 45, 3, 21, 4, 4, 120, 184, 0, 54]
abbrev dktJ9_init_2_3 : List UInt8 := dkwJ9_init_2_3 ++ dktJ9_init_2_4
def dkwJ9_init_2_2 : List UInt8 := [180, 4, 24, 153, 0, 28, 42, 45, 3, 21, 4, 184, 4, 27, 181, 0, 9, 42, 42, 180, 0, 9, 21, 4]
abbrev dktJ9_init_2_2 : List UInt8 := dkwJ9_init_2_2 ++ dktJ9_init_2_3
def dkwJ9_init_2_1 : List UInt8 := [181, 0, 15, 42, 45, 3, 21, 4, 184, 0, 54, 181, 0, 9, 167, 0, 59, 178, 0, 38, 153, 0, 35, 43]
abbrev dktJ9_init_2_1 : List UInt8 := dkwJ9_init_2_1 ++ dktJ9_init_2_2
def dkwJ9_init_2_0 : List UInt8 := [42, 183, 0, 1, 43, 182, 2, 40, 78, 43, 182, 2, 37, 54, 4, 43, 182, 4, 23, 153, 0, 22, 42, 3]
abbrev dktJ9_init_2_0 : List UInt8 := dkwJ9_init_2_0 ++ dktJ9_init_2_1
theorem dksJ9_init_2_0 : cJ9_init_2.data.toList.drop 0 = dktJ9_init_2_0 := by decide +kernel
theorem dksJ9_init_2_1 : cJ9_init_2.data.toList.drop 24 = dktJ9_init_2_1 := dk_seg dksJ9_init_2_0 24 rfl rfl
theorem dksJ9_init_2_2 : cJ9_init_2.data.toList.drop 48 = dktJ9_init_2_2 := dk_seg dksJ9_init_2_1 24 rfl rfl
theorem dksJ9_init_2_3 : cJ9_init_2.data.toList.drop 72 = dktJ9_init_2_3 := dk_seg dksJ9_init_2_2 24 rfl rfl
theorem dksJ9_init_2_4 : cJ9_init_2.data.toList.drop 94 = dktJ9_init_2_4 := dk_seg dksJ9_init_2_3 22 rfl rfl
theorem dJ9_init_2_0 : decode cJ9_init_2 0 = .ok (.aload_n 0, 1) := dk_42 (dk_at dksJ9_init_2_0 0 rfl rfl)
theorem dJ9_init_2_1 : decode cJ9_init_2 1 = .ok (.invokespecial 1, 3) := dk_183 0 1 (dk_at dksJ9_init_2_0 1 rfl rfl)
theorem dJ9_init_2_4 : decode cJ9_init_2 4 = .ok (.aload_n 1, 1) := dk_43 (dk_at dksJ9_init_2_0 4 rfl rfl)
theorem dJ9_init_2_5 : decode cJ9_init_2 5 = .ok (.invokevirtual 552, 3) := dk_182 2 40 (dk_at dksJ9_init_2_0 5 rfl rfl)
theorem dJ9_init_2_8 : decode cJ9_init_2 8 = .ok (.astore_n 3, 1) := dk_78 (dk_at dksJ9_init_2_0 8 rfl rfl)
theorem dJ9_init_2_9 : decode cJ9_init_2 9 = .ok (.aload_n 1, 1) := dk_43 (dk_at dksJ9_init_2_0 9 rfl rfl)
theorem dJ9_init_2_10 : decode cJ9_init_2 10 = .ok (.invokevirtual 549, 3) := dk_182 2 37 (dk_at dksJ9_init_2_0 10 rfl rfl)
theorem dJ9_init_2_13 : decode cJ9_init_2 13 = .ok (.istore 4, 2) := dk_54 4 (dk_at dksJ9_init_2_0 13 rfl rfl)
theorem dJ9_init_2_15 : decode cJ9_init_2 15 = .ok (.aload_n 1, 1) := dk_43 (dk_at dksJ9_init_2_0 15 rfl rfl)
theorem dJ9_init_2_16 : decode cJ9_init_2 16 = .ok (.invokevirtual 1047, 3) := dk_182 4 23 (dk_at dksJ9_init_2_0 16 rfl rfl)
theorem dJ9_init_2_19 : decode cJ9_init_2 19 = .ok (.ifCond .eq 22, 3) := dk_153 0 22 (dk_at dksJ9_init_2_0 19 rfl rfl)
theorem dJ9_init_2_22 : decode cJ9_init_2 22 = .ok (.aload_n 0, 1) := dk_42 (dk_at dksJ9_init_2_0 22 rfl rfl)
theorem dJ9_init_2_23 : decode cJ9_init_2 23 = .ok (.iconst 0, 1) := dk_3 (dk_at dksJ9_init_2_0 23 rfl rfl)
theorem dJ9_init_2_24 : decode cJ9_init_2 24 = .ok (.putfield 15, 3) := dk_181 0 15 (dk_at dksJ9_init_2_1 0 rfl rfl)
theorem dJ9_init_2_27 : decode cJ9_init_2 27 = .ok (.aload_n 0, 1) := dk_42 (dk_at dksJ9_init_2_1 3 rfl rfl)
theorem dJ9_init_2_28 : decode cJ9_init_2 28 = .ok (.aload_n 3, 1) := dk_45 (dk_at dksJ9_init_2_1 4 rfl rfl)
theorem dJ9_init_2_29 : decode cJ9_init_2 29 = .ok (.iconst 0, 1) := dk_3 (dk_at dksJ9_init_2_1 5 rfl rfl)
theorem dJ9_init_2_30 : decode cJ9_init_2 30 = .ok (.iload 4, 2) := dk_21 4 (dk_at dksJ9_init_2_1 6 rfl rfl)
theorem dJ9_init_2_32 : decode cJ9_init_2 32 = .ok (.invokestatic 54, 3) := dk_184 0 54 (dk_at dksJ9_init_2_1 8 rfl rfl)
theorem dJ9_init_2_35 : decode cJ9_init_2 35 = .ok (.putfield 9, 3) := dk_181 0 9 (dk_at dksJ9_init_2_1 11 rfl rfl)
theorem dJ9_init_2_38 : decode cJ9_init_2 38 = .ok (.goto 59, 3) := dk_167 0 59 (dk_at dksJ9_init_2_1 14 rfl rfl)
theorem dJ9_init_2_41 : decode cJ9_init_2 41 = .ok (.getstatic 38, 3) := dk_178 0 38 (dk_at dksJ9_init_2_1 17 rfl rfl)
theorem dJ9_init_2_44 : decode cJ9_init_2 44 = .ok (.ifCond .eq 35, 3) := dk_153 0 35 (dk_at dksJ9_init_2_1 20 rfl rfl)
theorem dJ9_init_2_47 : decode cJ9_init_2 47 = .ok (.aload_n 1, 1) := dk_43 (dk_at dksJ9_init_2_1 23 rfl rfl)
theorem dJ9_init_2_48 : decode cJ9_init_2 48 = .ok (.getfield 1048, 3) := dk_180 4 24 (dk_at dksJ9_init_2_2 0 rfl rfl)
theorem dJ9_init_2_51 : decode cJ9_init_2 51 = .ok (.ifCond .eq 28, 3) := dk_153 0 28 (dk_at dksJ9_init_2_2 3 rfl rfl)
theorem dJ9_init_2_54 : decode cJ9_init_2 54 = .ok (.aload_n 0, 1) := dk_42 (dk_at dksJ9_init_2_2 6 rfl rfl)
theorem dJ9_init_2_55 : decode cJ9_init_2 55 = .ok (.aload_n 3, 1) := dk_45 (dk_at dksJ9_init_2_2 7 rfl rfl)
theorem dJ9_init_2_56 : decode cJ9_init_2 56 = .ok (.iconst 0, 1) := dk_3 (dk_at dksJ9_init_2_2 8 rfl rfl)
theorem dJ9_init_2_57 : decode cJ9_init_2 57 = .ok (.iload 4, 2) := dk_21 4 (dk_at dksJ9_init_2_2 9 rfl rfl)
theorem dJ9_init_2_59 : decode cJ9_init_2 59 = .ok (.invokestatic 1051, 3) := dk_184 4 27 (dk_at dksJ9_init_2_2 11 rfl rfl)
theorem dJ9_init_2_62 : decode cJ9_init_2 62 = .ok (.putfield 9, 3) := dk_181 0 9 (dk_at dksJ9_init_2_2 14 rfl rfl)
theorem dJ9_init_2_65 : decode cJ9_init_2 65 = .ok (.aload_n 0, 1) := dk_42 (dk_at dksJ9_init_2_2 17 rfl rfl)
theorem dJ9_init_2_66 : decode cJ9_init_2 66 = .ok (.aload_n 0, 1) := dk_42 (dk_at dksJ9_init_2_2 18 rfl rfl)
theorem dJ9_init_2_67 : decode cJ9_init_2 67 = .ok (.getfield 9, 3) := dk_180 0 9 (dk_at dksJ9_init_2_2 19 rfl rfl)
theorem dJ9_init_2_70 : decode cJ9_init_2 70 = .ok (.iload 4, 2) := dk_21 4 (dk_at dksJ9_init_2_2 22 rfl rfl)
theorem dJ9_init_2_72 : decode cJ9_init_2 72 = .ok (.invokestatic 47, 3) := dk_184 0 47 (dk_at dksJ9_init_2_3 0 rfl rfl)
theorem dJ9_init_2_75 : decode cJ9_init_2 75 = .ok (.putfield 15, 3) := dk_181 0 15 (dk_at dksJ9_init_2_3 3 rfl rfl)
theorem dJ9_init_2_78 : decode cJ9_init_2 78 = .ok (.return_, 1) := dk_177 (dk_at dksJ9_init_2_3 6 rfl rfl)
theorem dJ9_init_2_79 : decode cJ9_init_2 79 = .ok (.aload_n 0, 1) := dk_42 (dk_at dksJ9_init_2_3 7 rfl rfl)
theorem dJ9_init_2_80 : decode cJ9_init_2 80 = .ok (.iconst 1, 1) := dk_4 (dk_at dksJ9_init_2_3 8 rfl rfl)
theorem dJ9_init_2_81 : decode cJ9_init_2 81 = .ok (.putfield 15, 3) := dk_181 0 15 (dk_at dksJ9_init_2_3 9 rfl rfl)
theorem dJ9_init_2_84 : decode cJ9_init_2 84 = .ok (.aload_n 0, 1) := dk_42 (dk_at dksJ9_init_2_3 12 rfl rfl)
theorem dJ9_init_2_85 : decode cJ9_init_2 85 = .ok (.aload_n 3, 1) := dk_45 (dk_at dksJ9_init_2_3 13 rfl rfl)
theorem dJ9_init_2_86 : decode cJ9_init_2 86 = .ok (.iconst 0, 1) := dk_3 (dk_at dksJ9_init_2_3 14 rfl rfl)
theorem dJ9_init_2_87 : decode cJ9_init_2 87 = .ok (.iload 4, 2) := dk_21 4 (dk_at dksJ9_init_2_3 15 rfl rfl)
theorem dJ9_init_2_89 : decode cJ9_init_2 89 = .ok (.iconst 1, 1) := dk_4 (dk_at dksJ9_init_2_3 17 rfl rfl)
theorem dJ9_init_2_90 : decode cJ9_init_2 90 = .ok (.ishl, 1) := dk_120 (dk_at dksJ9_init_2_3 18 rfl rfl)
theorem dJ9_init_2_91 : decode cJ9_init_2 91 = .ok (.invokestatic 54, 3) := dk_184 0 54 (dk_at dksJ9_init_2_3 19 rfl rfl)
theorem dJ9_init_2_94 : decode cJ9_init_2 94 = .ok (.putfield 9, 3) := dk_181 0 9 (dk_at dksJ9_init_2_4 0 rfl rfl)
theorem dJ9_init_2_97 : decode cJ9_init_2 97 = .ok (.return_, 1) := dk_177 (dk_at dksJ9_init_2_4 3 rfl rfl)
abbrev cJ9_checkIndex : ByteArray := prog_36_method_155_code
def yJ9_checkIndex : MethodName := ⟨RJ9, "checkIndex", "(II)V"⟩
def dkwJ9_checkIndex_0 : List UInt8 := [26, 27, 178, 4, 29, 184, 4, 35, 87, 177]
abbrev dktJ9_checkIndex_0 : List UInt8 := dkwJ9_checkIndex_0 ++ []
theorem dksJ9_checkIndex_0 : cJ9_checkIndex.data.toList.drop 0 = dktJ9_checkIndex_0 := by decide +kernel
theorem dJ9_checkIndex_0 : decode cJ9_checkIndex 0 = .ok (.iload_n 0, 1) := dk_26 (dk_at dksJ9_checkIndex_0 0 rfl rfl)
theorem dJ9_checkIndex_1 : decode cJ9_checkIndex 1 = .ok (.iload_n 1, 1) := dk_27 (dk_at dksJ9_checkIndex_0 1 rfl rfl)
theorem dJ9_checkIndex_2 : decode cJ9_checkIndex 2 = .ok (.getstatic 1053, 3) := dk_178 4 29 (dk_at dksJ9_checkIndex_0 2 rfl rfl)
theorem dJ9_checkIndex_5 : decode cJ9_checkIndex 5 = .ok (.invokestatic 1059, 3) := dk_184 4 35 (dk_at dksJ9_checkIndex_0 5 rfl rfl)
theorem dJ9_checkIndex_8 : decode cJ9_checkIndex 8 = .ok (.pop, 1) := dk_87 (dk_at dksJ9_checkIndex_0 8 rfl rfl)
theorem dJ9_checkIndex_9 : decode cJ9_checkIndex 9 = .ok (.return_, 1) := dk_177 (dk_at dksJ9_checkIndex_0 9 rfl rfl)
abbrev cJ9_contentEquals : ByteArray := prog_36_method_69_code
def yJ9_contentEquals : MethodName := ⟨RJ9, "contentEquals", "(Ljava/lang/CharSequence;)Z"⟩
def dkwJ9_contentEquals_5 : List UInt8 := [167, 255, 226, 167, 0, 14, 45, 43, 28, 184, 2, 67, 154, 0, 5, 3, 172, 4, 172]
abbrev dktJ9_contentEquals_5 : List UInt8 := dkwJ9_contentEquals_5 ++ []
def dkwJ9_contentEquals_4 : List UInt8 := [21, 4, 51, 17, 0, 255, 126, 43, 21, 4, 185, 2, 65, 2, 0, 159, 0, 5, 3, 172, 132, 4, 1]
abbrev dktJ9_contentEquals_4 : List UInt8 := dkwJ9_contentEquals_4 ++ dktJ9_contentEquals_5
def dkwJ9_contentEquals_3 : List UInt8 := [3, 172, 42, 180, 0, 9, 78, 42, 182, 1, 236, 153, 0, 42, 3, 54, 4, 21, 4, 28, 162, 0, 30, 45]
abbrev dktJ9_contentEquals_3 : List UInt8 := dkwJ9_contentEquals_3 ++ dktJ9_contentEquals_4
def dkwJ9_contentEquals_2 : List UInt8 := [153, 0, 9, 42, 43, 182, 2, 59, 172, 43, 185, 2, 62, 1, 0, 61, 28, 42, 182, 1, 249, 159, 0, 5]
abbrev dktJ9_contentEquals_2 : List UInt8 := dkwJ9_contentEquals_2 ++ dktJ9_contentEquals_3
def dkwJ9_contentEquals_1 : List UInt8 := [182, 2, 55, 44, 195, 172, 78, 44, 195, 45, 191, 42, 43, 192, 2, 38, 182, 2, 55, 172, 43, 193, 0, 10]
abbrev dktJ9_contentEquals_1 : List UInt8 := dkwJ9_contentEquals_1 ++ dktJ9_contentEquals_2
def dkwJ9_contentEquals_0 : List UInt8 := [43, 193, 2, 38, 153, 0, 39, 43, 193, 1, 230, 153, 0, 23, 43, 89, 77, 194, 42, 43, 192, 2, 38]
abbrev dktJ9_contentEquals_0 : List UInt8 := dkwJ9_contentEquals_0 ++ dktJ9_contentEquals_1
theorem dksJ9_contentEquals_0 : cJ9_contentEquals.data.toList.drop 0 = dktJ9_contentEquals_0 := by decide +kernel
theorem dksJ9_contentEquals_1 : cJ9_contentEquals.data.toList.drop 23 = dktJ9_contentEquals_1 := dk_seg dksJ9_contentEquals_0 23 rfl rfl
theorem dksJ9_contentEquals_2 : cJ9_contentEquals.data.toList.drop 47 = dktJ9_contentEquals_2 := dk_seg dksJ9_contentEquals_1 24 rfl rfl
theorem dksJ9_contentEquals_3 : cJ9_contentEquals.data.toList.drop 71 = dktJ9_contentEquals_3 := dk_seg dksJ9_contentEquals_2 24 rfl rfl
theorem dksJ9_contentEquals_4 : cJ9_contentEquals.data.toList.drop 95 = dktJ9_contentEquals_4 := dk_seg dksJ9_contentEquals_3 24 rfl rfl
theorem dksJ9_contentEquals_5 : cJ9_contentEquals.data.toList.drop 118 = dktJ9_contentEquals_5 := dk_seg dksJ9_contentEquals_4 23 rfl rfl
theorem dJ9_contentEquals_0 : decode cJ9_contentEquals 0 = .ok (.aload_n 1, 1) := dk_43 (dk_at dksJ9_contentEquals_0 0 rfl rfl)
theorem dJ9_contentEquals_1 : decode cJ9_contentEquals 1 = .ok (.instanceof 550, 3) := dk_193 2 38 (dk_at dksJ9_contentEquals_0 1 rfl rfl)
theorem dJ9_contentEquals_4 : decode cJ9_contentEquals 4 = .ok (.ifCond .eq 39, 3) := dk_153 0 39 (dk_at dksJ9_contentEquals_0 4 rfl rfl)
theorem dJ9_contentEquals_7 : decode cJ9_contentEquals 7 = .ok (.aload_n 1, 1) := dk_43 (dk_at dksJ9_contentEquals_0 7 rfl rfl)
theorem dJ9_contentEquals_8 : decode cJ9_contentEquals 8 = .ok (.instanceof 486, 3) := dk_193 1 230 (dk_at dksJ9_contentEquals_0 8 rfl rfl)
theorem dJ9_contentEquals_11 : decode cJ9_contentEquals 11 = .ok (.ifCond .eq 23, 3) := dk_153 0 23 (dk_at dksJ9_contentEquals_0 11 rfl rfl)
theorem dJ9_contentEquals_14 : decode cJ9_contentEquals 14 = .ok (.aload_n 1, 1) := dk_43 (dk_at dksJ9_contentEquals_0 14 rfl rfl)
theorem dJ9_contentEquals_15 : decode cJ9_contentEquals 15 = .ok (.dup, 1) := dk_89 (dk_at dksJ9_contentEquals_0 15 rfl rfl)
theorem dJ9_contentEquals_16 : decode cJ9_contentEquals 16 = .ok (.astore_n 2, 1) := dk_77 (dk_at dksJ9_contentEquals_0 16 rfl rfl)
theorem dJ9_contentEquals_17 : decode cJ9_contentEquals 17 = .ok (.monitorenter, 1) := dk_194 (dk_at dksJ9_contentEquals_0 17 rfl rfl)
theorem dJ9_contentEquals_18 : decode cJ9_contentEquals 18 = .ok (.aload_n 0, 1) := dk_42 (dk_at dksJ9_contentEquals_0 18 rfl rfl)
theorem dJ9_contentEquals_19 : decode cJ9_contentEquals 19 = .ok (.aload_n 1, 1) := dk_43 (dk_at dksJ9_contentEquals_0 19 rfl rfl)
theorem dJ9_contentEquals_20 : decode cJ9_contentEquals 20 = .ok (.checkcast 550, 3) := dk_192 2 38 (dk_at dksJ9_contentEquals_0 20 rfl rfl)
theorem dJ9_contentEquals_23 : decode cJ9_contentEquals 23 = .ok (.invokevirtual 567, 3) := dk_182 2 55 (dk_at dksJ9_contentEquals_1 0 rfl rfl)
theorem dJ9_contentEquals_26 : decode cJ9_contentEquals 26 = .ok (.aload_n 2, 1) := dk_44 (dk_at dksJ9_contentEquals_1 3 rfl rfl)
theorem dJ9_contentEquals_27 : decode cJ9_contentEquals 27 = .ok (.monitorexit, 1) := dk_195 (dk_at dksJ9_contentEquals_1 4 rfl rfl)
theorem dJ9_contentEquals_28 : decode cJ9_contentEquals 28 = .ok (.ireturn, 1) := dk_172 (dk_at dksJ9_contentEquals_1 5 rfl rfl)
theorem dJ9_contentEquals_29 : decode cJ9_contentEquals 29 = .ok (.astore_n 3, 1) := dk_78 (dk_at dksJ9_contentEquals_1 6 rfl rfl)
theorem dJ9_contentEquals_30 : decode cJ9_contentEquals 30 = .ok (.aload_n 2, 1) := dk_44 (dk_at dksJ9_contentEquals_1 7 rfl rfl)
theorem dJ9_contentEquals_31 : decode cJ9_contentEquals 31 = .ok (.monitorexit, 1) := dk_195 (dk_at dksJ9_contentEquals_1 8 rfl rfl)
theorem dJ9_contentEquals_32 : decode cJ9_contentEquals 32 = .ok (.aload_n 3, 1) := dk_45 (dk_at dksJ9_contentEquals_1 9 rfl rfl)
theorem dJ9_contentEquals_33 : decode cJ9_contentEquals 33 = .ok (.athrow, 1) := dk_191 (dk_at dksJ9_contentEquals_1 10 rfl rfl)
theorem dJ9_contentEquals_34 : decode cJ9_contentEquals 34 = .ok (.aload_n 0, 1) := dk_42 (dk_at dksJ9_contentEquals_1 11 rfl rfl)
theorem dJ9_contentEquals_35 : decode cJ9_contentEquals 35 = .ok (.aload_n 1, 1) := dk_43 (dk_at dksJ9_contentEquals_1 12 rfl rfl)
theorem dJ9_contentEquals_36 : decode cJ9_contentEquals 36 = .ok (.checkcast 550, 3) := dk_192 2 38 (dk_at dksJ9_contentEquals_1 13 rfl rfl)
theorem dJ9_contentEquals_39 : decode cJ9_contentEquals 39 = .ok (.invokevirtual 567, 3) := dk_182 2 55 (dk_at dksJ9_contentEquals_1 16 rfl rfl)
theorem dJ9_contentEquals_42 : decode cJ9_contentEquals 42 = .ok (.ireturn, 1) := dk_172 (dk_at dksJ9_contentEquals_1 19 rfl rfl)
theorem dJ9_contentEquals_43 : decode cJ9_contentEquals 43 = .ok (.aload_n 1, 1) := dk_43 (dk_at dksJ9_contentEquals_1 20 rfl rfl)
theorem dJ9_contentEquals_44 : decode cJ9_contentEquals 44 = .ok (.instanceof 10, 3) := dk_193 0 10 (dk_at dksJ9_contentEquals_1 21 rfl rfl)
theorem dJ9_contentEquals_47 : decode cJ9_contentEquals 47 = .ok (.ifCond .eq 9, 3) := dk_153 0 9 (dk_at dksJ9_contentEquals_2 0 rfl rfl)
theorem dJ9_contentEquals_50 : decode cJ9_contentEquals 50 = .ok (.aload_n 0, 1) := dk_42 (dk_at dksJ9_contentEquals_2 3 rfl rfl)
theorem dJ9_contentEquals_51 : decode cJ9_contentEquals 51 = .ok (.aload_n 1, 1) := dk_43 (dk_at dksJ9_contentEquals_2 4 rfl rfl)
theorem dJ9_contentEquals_52 : decode cJ9_contentEquals 52 = .ok (.invokevirtual 571, 3) := dk_182 2 59 (dk_at dksJ9_contentEquals_2 5 rfl rfl)
theorem dJ9_contentEquals_55 : decode cJ9_contentEquals 55 = .ok (.ireturn, 1) := dk_172 (dk_at dksJ9_contentEquals_2 8 rfl rfl)
theorem dJ9_contentEquals_56 : decode cJ9_contentEquals 56 = .ok (.aload_n 1, 1) := dk_43 (dk_at dksJ9_contentEquals_2 9 rfl rfl)
theorem dJ9_contentEquals_57 : decode cJ9_contentEquals 57 = .ok (.invokeinterface 574 1, 5) := by decide +kernel
theorem dJ9_contentEquals_62 : decode cJ9_contentEquals 62 = .ok (.istore_n 2, 1) := dk_61 (dk_at dksJ9_contentEquals_2 15 rfl rfl)
theorem dJ9_contentEquals_63 : decode cJ9_contentEquals 63 = .ok (.iload_n 2, 1) := dk_28 (dk_at dksJ9_contentEquals_2 16 rfl rfl)
theorem dJ9_contentEquals_64 : decode cJ9_contentEquals 64 = .ok (.aload_n 0, 1) := dk_42 (dk_at dksJ9_contentEquals_2 17 rfl rfl)
theorem dJ9_contentEquals_65 : decode cJ9_contentEquals 65 = .ok (.invokevirtual 505, 3) := dk_182 1 249 (dk_at dksJ9_contentEquals_2 18 rfl rfl)
theorem dJ9_contentEquals_68 : decode cJ9_contentEquals 68 = .ok (.if_icmp .eq 5, 3) := dk_159 0 5 (dk_at dksJ9_contentEquals_2 21 rfl rfl)
theorem dJ9_contentEquals_71 : decode cJ9_contentEquals 71 = .ok (.iconst 0, 1) := dk_3 (dk_at dksJ9_contentEquals_3 0 rfl rfl)
theorem dJ9_contentEquals_72 : decode cJ9_contentEquals 72 = .ok (.ireturn, 1) := dk_172 (dk_at dksJ9_contentEquals_3 1 rfl rfl)
theorem dJ9_contentEquals_73 : decode cJ9_contentEquals 73 = .ok (.aload_n 0, 1) := dk_42 (dk_at dksJ9_contentEquals_3 2 rfl rfl)
theorem dJ9_contentEquals_74 : decode cJ9_contentEquals 74 = .ok (.getfield 9, 3) := dk_180 0 9 (dk_at dksJ9_contentEquals_3 3 rfl rfl)
theorem dJ9_contentEquals_77 : decode cJ9_contentEquals 77 = .ok (.astore_n 3, 1) := dk_78 (dk_at dksJ9_contentEquals_3 6 rfl rfl)
theorem dJ9_contentEquals_78 : decode cJ9_contentEquals 78 = .ok (.aload_n 0, 1) := dk_42 (dk_at dksJ9_contentEquals_3 7 rfl rfl)
theorem dJ9_contentEquals_79 : decode cJ9_contentEquals 79 = .ok (.invokevirtual 492, 3) := dk_182 1 236 (dk_at dksJ9_contentEquals_3 8 rfl rfl)
theorem dJ9_contentEquals_82 : decode cJ9_contentEquals 82 = .ok (.ifCond .eq 42, 3) := dk_153 0 42 (dk_at dksJ9_contentEquals_3 11 rfl rfl)
theorem dJ9_contentEquals_85 : decode cJ9_contentEquals 85 = .ok (.iconst 0, 1) := dk_3 (dk_at dksJ9_contentEquals_3 14 rfl rfl)
theorem dJ9_contentEquals_86 : decode cJ9_contentEquals 86 = .ok (.istore 4, 2) := dk_54 4 (dk_at dksJ9_contentEquals_3 15 rfl rfl)
theorem dJ9_contentEquals_88 : decode cJ9_contentEquals 88 = .ok (.iload 4, 2) := dk_21 4 (dk_at dksJ9_contentEquals_3 17 rfl rfl)
theorem dJ9_contentEquals_90 : decode cJ9_contentEquals 90 = .ok (.iload_n 2, 1) := dk_28 (dk_at dksJ9_contentEquals_3 19 rfl rfl)
theorem dJ9_contentEquals_91 : decode cJ9_contentEquals 91 = .ok (.if_icmp .ge 30, 3) := dk_162 0 30 (dk_at dksJ9_contentEquals_3 20 rfl rfl)
theorem dJ9_contentEquals_94 : decode cJ9_contentEquals 94 = .ok (.aload_n 3, 1) := dk_45 (dk_at dksJ9_contentEquals_3 23 rfl rfl)
theorem dJ9_contentEquals_95 : decode cJ9_contentEquals 95 = .ok (.iload 4, 2) := dk_21 4 (dk_at dksJ9_contentEquals_4 0 rfl rfl)
theorem dJ9_contentEquals_97 : decode cJ9_contentEquals 97 = .ok (.baload, 1) := dk_51 (dk_at dksJ9_contentEquals_4 2 rfl rfl)
theorem dJ9_contentEquals_98 : decode cJ9_contentEquals 98 = .ok (.sipush 255, 3) := dk_17 0 255 (dk_at dksJ9_contentEquals_4 3 rfl rfl)
theorem dJ9_contentEquals_101 : decode cJ9_contentEquals 101 = .ok (.iand, 1) := dk_126 (dk_at dksJ9_contentEquals_4 6 rfl rfl)
theorem dJ9_contentEquals_102 : decode cJ9_contentEquals 102 = .ok (.aload_n 1, 1) := dk_43 (dk_at dksJ9_contentEquals_4 7 rfl rfl)
theorem dJ9_contentEquals_103 : decode cJ9_contentEquals 103 = .ok (.iload 4, 2) := dk_21 4 (dk_at dksJ9_contentEquals_4 8 rfl rfl)
theorem dJ9_contentEquals_105 : decode cJ9_contentEquals 105 = .ok (.invokeinterface 577 2, 5) := by decide +kernel
theorem dJ9_contentEquals_110 : decode cJ9_contentEquals 110 = .ok (.if_icmp .eq 5, 3) := dk_159 0 5 (dk_at dksJ9_contentEquals_4 15 rfl rfl)
theorem dJ9_contentEquals_113 : decode cJ9_contentEquals 113 = .ok (.iconst 0, 1) := dk_3 (dk_at dksJ9_contentEquals_4 18 rfl rfl)
theorem dJ9_contentEquals_114 : decode cJ9_contentEquals 114 = .ok (.ireturn, 1) := dk_172 (dk_at dksJ9_contentEquals_4 19 rfl rfl)
theorem dJ9_contentEquals_115 : decode cJ9_contentEquals 115 = .ok (.iinc 4 1, 3) := dk_132 4 1 (dk_at dksJ9_contentEquals_4 20 rfl rfl)
theorem dJ9_contentEquals_118 : decode cJ9_contentEquals 118 = .ok (.goto (-30), 3) := dk_167 255 226 (dk_at dksJ9_contentEquals_5 0 rfl rfl)
theorem dJ9_contentEquals_121 : decode cJ9_contentEquals 121 = .ok (.goto 14, 3) := dk_167 0 14 (dk_at dksJ9_contentEquals_5 3 rfl rfl)
theorem dJ9_contentEquals_124 : decode cJ9_contentEquals 124 = .ok (.aload_n 3, 1) := dk_45 (dk_at dksJ9_contentEquals_5 6 rfl rfl)
theorem dJ9_contentEquals_125 : decode cJ9_contentEquals 125 = .ok (.aload_n 1, 1) := dk_43 (dk_at dksJ9_contentEquals_5 7 rfl rfl)
theorem dJ9_contentEquals_126 : decode cJ9_contentEquals 126 = .ok (.iload_n 2, 1) := dk_28 (dk_at dksJ9_contentEquals_5 8 rfl rfl)
theorem dJ9_contentEquals_127 : decode cJ9_contentEquals 127 = .ok (.invokestatic 579, 3) := dk_184 2 67 (dk_at dksJ9_contentEquals_5 9 rfl rfl)
theorem dJ9_contentEquals_130 : decode cJ9_contentEquals 130 = .ok (.ifCond .ne 5, 3) := dk_154 0 5 (dk_at dksJ9_contentEquals_5 12 rfl rfl)
theorem dJ9_contentEquals_133 : decode cJ9_contentEquals 133 = .ok (.iconst 0, 1) := dk_3 (dk_at dksJ9_contentEquals_5 15 rfl rfl)
theorem dJ9_contentEquals_134 : decode cJ9_contentEquals 134 = .ok (.ireturn, 1) := dk_172 (dk_at dksJ9_contentEquals_5 16 rfl rfl)
theorem dJ9_contentEquals_135 : decode cJ9_contentEquals 135 = .ok (.iconst 1, 1) := dk_4 (dk_at dksJ9_contentEquals_5 17 rfl rfl)
theorem dJ9_contentEquals_136 : decode cJ9_contentEquals 136 = .ok (.ireturn, 1) := dk_172 (dk_at dksJ9_contentEquals_5 18 rfl rfl)
abbrev cJ9_nonSyncContentEquals : ByteArray := prog_36_method_68_code
def yJ9_nonSyncContentEquals : MethodName := ⟨RJ9, "nonSyncContentEquals", "(Ljava/lang/AbstractStringBuilder;)Z"⟩
def dkwJ9_nonSyncContentEquals_3 : List UInt8 := [153, 0, 5, 3, 172, 45, 25, 4, 28, 184, 2, 52, 172]
abbrev dktJ9_nonSyncContentEquals_3 : List UInt8 := dkwJ9_nonSyncContentEquals_3 ++ []
def dkwJ9_nonSyncContentEquals_2 : List UInt8 := [163, 0, 18, 45, 25, 4, 45, 190, 184, 2, 46, 156, 0, 7, 4, 167, 0, 4, 3, 172, 21, 5]
abbrev dktJ9_nonSyncContentEquals_2 : List UInt8 := dkwJ9_nonSyncContentEquals_2 ++ dktJ9_nonSyncContentEquals_3
def dkwJ9_nonSyncContentEquals_1 : List UInt8 := [58, 4, 42, 182, 1, 79, 54, 5, 21, 5, 43, 182, 2, 43, 160, 0, 28, 45, 190, 25, 4, 190]
abbrev dktJ9_nonSyncContentEquals_1 : List UInt8 := dkwJ9_nonSyncContentEquals_1 ++ dktJ9_nonSyncContentEquals_2
def dkwJ9_nonSyncContentEquals_0 : List UInt8 := [42, 182, 1, 249, 61, 28, 43, 182, 2, 37, 159, 0, 5, 3, 172, 42, 180, 0, 9, 78, 43, 182, 2, 40]
abbrev dktJ9_nonSyncContentEquals_0 : List UInt8 := dkwJ9_nonSyncContentEquals_0 ++ dktJ9_nonSyncContentEquals_1
theorem dksJ9_nonSyncContentEquals_0 : cJ9_nonSyncContentEquals.data.toList.drop 0 = dktJ9_nonSyncContentEquals_0 := by decide +kernel
theorem dksJ9_nonSyncContentEquals_1 : cJ9_nonSyncContentEquals.data.toList.drop 24 = dktJ9_nonSyncContentEquals_1 := dk_seg dksJ9_nonSyncContentEquals_0 24 rfl rfl
theorem dksJ9_nonSyncContentEquals_2 : cJ9_nonSyncContentEquals.data.toList.drop 46 = dktJ9_nonSyncContentEquals_2 := dk_seg dksJ9_nonSyncContentEquals_1 22 rfl rfl
theorem dksJ9_nonSyncContentEquals_3 : cJ9_nonSyncContentEquals.data.toList.drop 68 = dktJ9_nonSyncContentEquals_3 := dk_seg dksJ9_nonSyncContentEquals_2 22 rfl rfl
theorem dJ9_nonSyncContentEquals_0 : decode cJ9_nonSyncContentEquals 0 = .ok (.aload_n 0, 1) := dk_42 (dk_at dksJ9_nonSyncContentEquals_0 0 rfl rfl)
theorem dJ9_nonSyncContentEquals_1 : decode cJ9_nonSyncContentEquals 1 = .ok (.invokevirtual 505, 3) := dk_182 1 249 (dk_at dksJ9_nonSyncContentEquals_0 1 rfl rfl)
theorem dJ9_nonSyncContentEquals_4 : decode cJ9_nonSyncContentEquals 4 = .ok (.istore_n 2, 1) := dk_61 (dk_at dksJ9_nonSyncContentEquals_0 4 rfl rfl)
theorem dJ9_nonSyncContentEquals_5 : decode cJ9_nonSyncContentEquals 5 = .ok (.iload_n 2, 1) := dk_28 (dk_at dksJ9_nonSyncContentEquals_0 5 rfl rfl)
theorem dJ9_nonSyncContentEquals_6 : decode cJ9_nonSyncContentEquals 6 = .ok (.aload_n 1, 1) := dk_43 (dk_at dksJ9_nonSyncContentEquals_0 6 rfl rfl)
theorem dJ9_nonSyncContentEquals_7 : decode cJ9_nonSyncContentEquals 7 = .ok (.invokevirtual 549, 3) := dk_182 2 37 (dk_at dksJ9_nonSyncContentEquals_0 7 rfl rfl)
theorem dJ9_nonSyncContentEquals_10 : decode cJ9_nonSyncContentEquals 10 = .ok (.if_icmp .eq 5, 3) := dk_159 0 5 (dk_at dksJ9_nonSyncContentEquals_0 10 rfl rfl)
theorem dJ9_nonSyncContentEquals_13 : decode cJ9_nonSyncContentEquals 13 = .ok (.iconst 0, 1) := dk_3 (dk_at dksJ9_nonSyncContentEquals_0 13 rfl rfl)
theorem dJ9_nonSyncContentEquals_14 : decode cJ9_nonSyncContentEquals 14 = .ok (.ireturn, 1) := dk_172 (dk_at dksJ9_nonSyncContentEquals_0 14 rfl rfl)
theorem dJ9_nonSyncContentEquals_15 : decode cJ9_nonSyncContentEquals 15 = .ok (.aload_n 0, 1) := dk_42 (dk_at dksJ9_nonSyncContentEquals_0 15 rfl rfl)
theorem dJ9_nonSyncContentEquals_16 : decode cJ9_nonSyncContentEquals 16 = .ok (.getfield 9, 3) := dk_180 0 9 (dk_at dksJ9_nonSyncContentEquals_0 16 rfl rfl)
theorem dJ9_nonSyncContentEquals_19 : decode cJ9_nonSyncContentEquals 19 = .ok (.astore_n 3, 1) := dk_78 (dk_at dksJ9_nonSyncContentEquals_0 19 rfl rfl)
theorem dJ9_nonSyncContentEquals_20 : decode cJ9_nonSyncContentEquals 20 = .ok (.aload_n 1, 1) := dk_43 (dk_at dksJ9_nonSyncContentEquals_0 20 rfl rfl)
theorem dJ9_nonSyncContentEquals_21 : decode cJ9_nonSyncContentEquals 21 = .ok (.invokevirtual 552, 3) := dk_182 2 40 (dk_at dksJ9_nonSyncContentEquals_0 21 rfl rfl)
theorem dJ9_nonSyncContentEquals_24 : decode cJ9_nonSyncContentEquals 24 = .ok (.astore 4, 2) := dk_58 4 (dk_at dksJ9_nonSyncContentEquals_1 0 rfl rfl)
theorem dJ9_nonSyncContentEquals_26 : decode cJ9_nonSyncContentEquals 26 = .ok (.aload_n 0, 1) := dk_42 (dk_at dksJ9_nonSyncContentEquals_1 2 rfl rfl)
theorem dJ9_nonSyncContentEquals_27 : decode cJ9_nonSyncContentEquals 27 = .ok (.invokevirtual 335, 3) := dk_182 1 79 (dk_at dksJ9_nonSyncContentEquals_1 3 rfl rfl)
theorem dJ9_nonSyncContentEquals_30 : decode cJ9_nonSyncContentEquals 30 = .ok (.istore 5, 2) := dk_54 5 (dk_at dksJ9_nonSyncContentEquals_1 6 rfl rfl)
theorem dJ9_nonSyncContentEquals_32 : decode cJ9_nonSyncContentEquals 32 = .ok (.iload 5, 2) := dk_21 5 (dk_at dksJ9_nonSyncContentEquals_1 8 rfl rfl)
theorem dJ9_nonSyncContentEquals_34 : decode cJ9_nonSyncContentEquals 34 = .ok (.aload_n 1, 1) := dk_43 (dk_at dksJ9_nonSyncContentEquals_1 10 rfl rfl)
theorem dJ9_nonSyncContentEquals_35 : decode cJ9_nonSyncContentEquals 35 = .ok (.invokevirtual 555, 3) := dk_182 2 43 (dk_at dksJ9_nonSyncContentEquals_1 11 rfl rfl)
theorem dJ9_nonSyncContentEquals_38 : decode cJ9_nonSyncContentEquals 38 = .ok (.if_icmp .ne 28, 3) := dk_160 0 28 (dk_at dksJ9_nonSyncContentEquals_1 14 rfl rfl)
theorem dJ9_nonSyncContentEquals_41 : decode cJ9_nonSyncContentEquals 41 = .ok (.aload_n 3, 1) := dk_45 (dk_at dksJ9_nonSyncContentEquals_1 17 rfl rfl)
theorem dJ9_nonSyncContentEquals_42 : decode cJ9_nonSyncContentEquals 42 = .ok (.arraylength, 1) := dk_190 (dk_at dksJ9_nonSyncContentEquals_1 18 rfl rfl)
theorem dJ9_nonSyncContentEquals_43 : decode cJ9_nonSyncContentEquals 43 = .ok (.aload 4, 2) := dk_25 4 (dk_at dksJ9_nonSyncContentEquals_1 19 rfl rfl)
theorem dJ9_nonSyncContentEquals_45 : decode cJ9_nonSyncContentEquals 45 = .ok (.arraylength, 1) := dk_190 (dk_at dksJ9_nonSyncContentEquals_1 21 rfl rfl)
theorem dJ9_nonSyncContentEquals_46 : decode cJ9_nonSyncContentEquals 46 = .ok (.if_icmp .gt 18, 3) := dk_163 0 18 (dk_at dksJ9_nonSyncContentEquals_2 0 rfl rfl)
theorem dJ9_nonSyncContentEquals_49 : decode cJ9_nonSyncContentEquals 49 = .ok (.aload_n 3, 1) := dk_45 (dk_at dksJ9_nonSyncContentEquals_2 3 rfl rfl)
theorem dJ9_nonSyncContentEquals_50 : decode cJ9_nonSyncContentEquals 50 = .ok (.aload 4, 2) := dk_25 4 (dk_at dksJ9_nonSyncContentEquals_2 4 rfl rfl)
theorem dJ9_nonSyncContentEquals_52 : decode cJ9_nonSyncContentEquals 52 = .ok (.aload_n 3, 1) := dk_45 (dk_at dksJ9_nonSyncContentEquals_2 6 rfl rfl)
theorem dJ9_nonSyncContentEquals_53 : decode cJ9_nonSyncContentEquals 53 = .ok (.arraylength, 1) := dk_190 (dk_at dksJ9_nonSyncContentEquals_2 7 rfl rfl)
theorem dJ9_nonSyncContentEquals_54 : decode cJ9_nonSyncContentEquals 54 = .ok (.invokestatic 558, 3) := dk_184 2 46 (dk_at dksJ9_nonSyncContentEquals_2 8 rfl rfl)
theorem dJ9_nonSyncContentEquals_57 : decode cJ9_nonSyncContentEquals 57 = .ok (.ifCond .ge 7, 3) := dk_156 0 7 (dk_at dksJ9_nonSyncContentEquals_2 11 rfl rfl)
theorem dJ9_nonSyncContentEquals_60 : decode cJ9_nonSyncContentEquals 60 = .ok (.iconst 1, 1) := dk_4 (dk_at dksJ9_nonSyncContentEquals_2 14 rfl rfl)
theorem dJ9_nonSyncContentEquals_61 : decode cJ9_nonSyncContentEquals 61 = .ok (.goto 4, 3) := dk_167 0 4 (dk_at dksJ9_nonSyncContentEquals_2 15 rfl rfl)
theorem dJ9_nonSyncContentEquals_64 : decode cJ9_nonSyncContentEquals 64 = .ok (.iconst 0, 1) := dk_3 (dk_at dksJ9_nonSyncContentEquals_2 18 rfl rfl)
theorem dJ9_nonSyncContentEquals_65 : decode cJ9_nonSyncContentEquals 65 = .ok (.ireturn, 1) := dk_172 (dk_at dksJ9_nonSyncContentEquals_2 19 rfl rfl)
theorem dJ9_nonSyncContentEquals_66 : decode cJ9_nonSyncContentEquals 66 = .ok (.iload 5, 2) := dk_21 5 (dk_at dksJ9_nonSyncContentEquals_2 20 rfl rfl)
theorem dJ9_nonSyncContentEquals_68 : decode cJ9_nonSyncContentEquals 68 = .ok (.ifCond .eq 5, 3) := dk_153 0 5 (dk_at dksJ9_nonSyncContentEquals_3 0 rfl rfl)
theorem dJ9_nonSyncContentEquals_71 : decode cJ9_nonSyncContentEquals 71 = .ok (.iconst 0, 1) := dk_3 (dk_at dksJ9_nonSyncContentEquals_3 3 rfl rfl)
theorem dJ9_nonSyncContentEquals_72 : decode cJ9_nonSyncContentEquals 72 = .ok (.ireturn, 1) := dk_172 (dk_at dksJ9_nonSyncContentEquals_3 4 rfl rfl)
theorem dJ9_nonSyncContentEquals_73 : decode cJ9_nonSyncContentEquals 73 = .ok (.aload_n 3, 1) := dk_45 (dk_at dksJ9_nonSyncContentEquals_3 5 rfl rfl)
theorem dJ9_nonSyncContentEquals_74 : decode cJ9_nonSyncContentEquals 74 = .ok (.aload 4, 2) := dk_25 4 (dk_at dksJ9_nonSyncContentEquals_3 6 rfl rfl)
theorem dJ9_nonSyncContentEquals_76 : decode cJ9_nonSyncContentEquals 76 = .ok (.iload_n 2, 1) := dk_28 (dk_at dksJ9_nonSyncContentEquals_3 8 rfl rfl)
theorem dJ9_nonSyncContentEquals_77 : decode cJ9_nonSyncContentEquals 77 = .ok (.invokestatic 564, 3) := dk_184 2 52 (dk_at dksJ9_nonSyncContentEquals_3 9 rfl rfl)
theorem dJ9_nonSyncContentEquals_80 : decode cJ9_nonSyncContentEquals 80 = .ok (.ireturn, 1) := dk_172 (dk_at dksJ9_nonSyncContentEquals_3 12 rfl rfl)
abbrev cJ9_equals : ByteArray := prog_36_method_66_code
def yJ9_equals : MethodName := ⟨RJ9, "equals", "(Ljava/lang/Object;)Z"⟩
def dkwJ9_equals_2 : List UInt8 := [184, 2, 29, 153, 0, 7, 4, 167, 0, 4, 3, 172]
abbrev dktJ9_equals_2 : List UInt8 := dkwJ9_equals_2 ++ []
def dkwJ9_equals_1 : List UInt8 := [153, 0, 14, 42, 180, 0, 15, 44, 180, 0, 15, 160, 0, 21, 42, 180, 0, 9, 44, 180, 0, 9]
abbrev dktJ9_equals_1 : List UInt8 := dkwJ9_equals_1 ++ dktJ9_equals_2
def dkwJ9_equals_0 : List UInt8 := [42, 43, 166, 0, 5, 4, 172, 43, 193, 0, 10, 153, 0, 43, 43, 192, 0, 10, 77, 178, 0, 38]
abbrev dktJ9_equals_0 : List UInt8 := dkwJ9_equals_0 ++ dktJ9_equals_1
theorem dksJ9_equals_0 : cJ9_equals.data.toList.drop 0 = dktJ9_equals_0 := by decide +kernel
theorem dksJ9_equals_1 : cJ9_equals.data.toList.drop 22 = dktJ9_equals_1 := dk_seg dksJ9_equals_0 22 rfl rfl
theorem dksJ9_equals_2 : cJ9_equals.data.toList.drop 44 = dktJ9_equals_2 := dk_seg dksJ9_equals_1 22 rfl rfl
theorem dJ9_equals_0 : decode cJ9_equals 0 = .ok (.aload_n 0, 1) := dk_42 (dk_at dksJ9_equals_0 0 rfl rfl)
theorem dJ9_equals_1 : decode cJ9_equals 1 = .ok (.aload_n 1, 1) := dk_43 (dk_at dksJ9_equals_0 1 rfl rfl)
theorem dJ9_equals_2 : decode cJ9_equals 2 = .ok (.if_acmp .ne 5, 3) := dk_166 0 5 (dk_at dksJ9_equals_0 2 rfl rfl)
theorem dJ9_equals_5 : decode cJ9_equals 5 = .ok (.iconst 1, 1) := dk_4 (dk_at dksJ9_equals_0 5 rfl rfl)
theorem dJ9_equals_6 : decode cJ9_equals 6 = .ok (.ireturn, 1) := dk_172 (dk_at dksJ9_equals_0 6 rfl rfl)
theorem dJ9_equals_7 : decode cJ9_equals 7 = .ok (.aload_n 1, 1) := dk_43 (dk_at dksJ9_equals_0 7 rfl rfl)
theorem dJ9_equals_8 : decode cJ9_equals 8 = .ok (.instanceof 10, 3) := dk_193 0 10 (dk_at dksJ9_equals_0 8 rfl rfl)
theorem dJ9_equals_11 : decode cJ9_equals 11 = .ok (.ifCond .eq 43, 3) := dk_153 0 43 (dk_at dksJ9_equals_0 11 rfl rfl)
theorem dJ9_equals_14 : decode cJ9_equals 14 = .ok (.aload_n 1, 1) := dk_43 (dk_at dksJ9_equals_0 14 rfl rfl)
theorem dJ9_equals_15 : decode cJ9_equals 15 = .ok (.checkcast 10, 3) := dk_192 0 10 (dk_at dksJ9_equals_0 15 rfl rfl)
theorem dJ9_equals_18 : decode cJ9_equals 18 = .ok (.astore_n 2, 1) := dk_77 (dk_at dksJ9_equals_0 18 rfl rfl)
theorem dJ9_equals_19 : decode cJ9_equals 19 = .ok (.getstatic 38, 3) := dk_178 0 38 (dk_at dksJ9_equals_0 19 rfl rfl)
theorem dJ9_equals_22 : decode cJ9_equals 22 = .ok (.ifCond .eq 14, 3) := dk_153 0 14 (dk_at dksJ9_equals_1 0 rfl rfl)
theorem dJ9_equals_25 : decode cJ9_equals 25 = .ok (.aload_n 0, 1) := dk_42 (dk_at dksJ9_equals_1 3 rfl rfl)
theorem dJ9_equals_26 : decode cJ9_equals 26 = .ok (.getfield 15, 3) := dk_180 0 15 (dk_at dksJ9_equals_1 4 rfl rfl)
theorem dJ9_equals_29 : decode cJ9_equals 29 = .ok (.aload_n 2, 1) := dk_44 (dk_at dksJ9_equals_1 7 rfl rfl)
theorem dJ9_equals_30 : decode cJ9_equals 30 = .ok (.getfield 15, 3) := dk_180 0 15 (dk_at dksJ9_equals_1 8 rfl rfl)
theorem dJ9_equals_33 : decode cJ9_equals 33 = .ok (.if_icmp .ne 21, 3) := dk_160 0 21 (dk_at dksJ9_equals_1 11 rfl rfl)
theorem dJ9_equals_36 : decode cJ9_equals 36 = .ok (.aload_n 0, 1) := dk_42 (dk_at dksJ9_equals_1 14 rfl rfl)
theorem dJ9_equals_37 : decode cJ9_equals 37 = .ok (.getfield 9, 3) := dk_180 0 9 (dk_at dksJ9_equals_1 15 rfl rfl)
theorem dJ9_equals_40 : decode cJ9_equals 40 = .ok (.aload_n 2, 1) := dk_44 (dk_at dksJ9_equals_1 18 rfl rfl)
theorem dJ9_equals_41 : decode cJ9_equals 41 = .ok (.getfield 9, 3) := dk_180 0 9 (dk_at dksJ9_equals_1 19 rfl rfl)
theorem dJ9_equals_44 : decode cJ9_equals 44 = .ok (.invokestatic 541, 3) := dk_184 2 29 (dk_at dksJ9_equals_2 0 rfl rfl)
theorem dJ9_equals_47 : decode cJ9_equals 47 = .ok (.ifCond .eq 7, 3) := dk_153 0 7 (dk_at dksJ9_equals_2 3 rfl rfl)
theorem dJ9_equals_50 : decode cJ9_equals 50 = .ok (.iconst 1, 1) := dk_4 (dk_at dksJ9_equals_2 6 rfl rfl)
theorem dJ9_equals_51 : decode cJ9_equals 51 = .ok (.goto 4, 3) := dk_167 0 4 (dk_at dksJ9_equals_2 7 rfl rfl)
theorem dJ9_equals_54 : decode cJ9_equals 54 = .ok (.iconst 0, 1) := dk_3 (dk_at dksJ9_equals_2 10 rfl rfl)
theorem dJ9_equals_55 : decode cJ9_equals 55 = .ok (.ireturn, 1) := dk_172 (dk_at dksJ9_equals_2 11 rfl rfl)
abbrev cJ9_isLatin1 : ByteArray := prog_36_method_154_code
def yJ9_isLatin1 : MethodName := ⟨RJ9, "isLatin1", "()Z"⟩
def dkwJ9_isLatin1_0 : List UInt8 := [178, 0, 38, 153, 0, 14, 42, 180, 0, 15, 154, 0, 7, 4, 167, 0, 4, 3, 172]
abbrev dktJ9_isLatin1_0 : List UInt8 := dkwJ9_isLatin1_0 ++ []
theorem dksJ9_isLatin1_0 : cJ9_isLatin1.data.toList.drop 0 = dktJ9_isLatin1_0 := by decide +kernel
theorem dJ9_isLatin1_0 : decode cJ9_isLatin1 0 = .ok (.getstatic 38, 3) := dk_178 0 38 (dk_at dksJ9_isLatin1_0 0 rfl rfl)
theorem dJ9_isLatin1_3 : decode cJ9_isLatin1 3 = .ok (.ifCond .eq 14, 3) := dk_153 0 14 (dk_at dksJ9_isLatin1_0 3 rfl rfl)
theorem dJ9_isLatin1_6 : decode cJ9_isLatin1 6 = .ok (.aload_n 0, 1) := dk_42 (dk_at dksJ9_isLatin1_0 6 rfl rfl)
theorem dJ9_isLatin1_7 : decode cJ9_isLatin1 7 = .ok (.getfield 15, 3) := dk_180 0 15 (dk_at dksJ9_isLatin1_0 7 rfl rfl)
theorem dJ9_isLatin1_10 : decode cJ9_isLatin1 10 = .ok (.ifCond .ne 7, 3) := dk_154 0 7 (dk_at dksJ9_isLatin1_0 10 rfl rfl)
theorem dJ9_isLatin1_13 : decode cJ9_isLatin1 13 = .ok (.iconst 1, 1) := dk_4 (dk_at dksJ9_isLatin1_0 13 rfl rfl)
theorem dJ9_isLatin1_14 : decode cJ9_isLatin1 14 = .ok (.goto 4, 3) := dk_167 0 4 (dk_at dksJ9_isLatin1_0 14 rfl rfl)
theorem dJ9_isLatin1_17 : decode cJ9_isLatin1 17 = .ok (.iconst 0, 1) := dk_3 (dk_at dksJ9_isLatin1_0 17 rfl rfl)
theorem dJ9_isLatin1_18 : decode cJ9_isLatin1 18 = .ok (.ireturn, 1) := dk_172 (dk_at dksJ9_isLatin1_0 18 rfl rfl)
abbrev cJ9_charAt : ByteArray := prog_36_method_56_code
def yJ9_charAt : MethodName := ⟨RJ9, "charAt", "(I)C"⟩
def dkwJ9_charAt_1 : List UInt8 := [172]
abbrev dktJ9_charAt_1 : List UInt8 := dkwJ9_charAt_1 ++ []
def dkwJ9_charAt_0 : List UInt8 := [42, 182, 1, 236, 153, 0, 12, 42, 180, 0, 9, 27, 184, 1, 239, 172, 42, 180, 0, 9, 27, 184, 1, 242]
abbrev dktJ9_charAt_0 : List UInt8 := dkwJ9_charAt_0 ++ dktJ9_charAt_1
theorem dksJ9_charAt_0 : cJ9_charAt.data.toList.drop 0 = dktJ9_charAt_0 := by decide +kernel
theorem dksJ9_charAt_1 : cJ9_charAt.data.toList.drop 24 = dktJ9_charAt_1 := dk_seg dksJ9_charAt_0 24 rfl rfl
theorem dJ9_charAt_0 : decode cJ9_charAt 0 = .ok (.aload_n 0, 1) := dk_42 (dk_at dksJ9_charAt_0 0 rfl rfl)
theorem dJ9_charAt_1 : decode cJ9_charAt 1 = .ok (.invokevirtual 492, 3) := dk_182 1 236 (dk_at dksJ9_charAt_0 1 rfl rfl)
theorem dJ9_charAt_4 : decode cJ9_charAt 4 = .ok (.ifCond .eq 12, 3) := dk_153 0 12 (dk_at dksJ9_charAt_0 4 rfl rfl)
theorem dJ9_charAt_7 : decode cJ9_charAt 7 = .ok (.aload_n 0, 1) := dk_42 (dk_at dksJ9_charAt_0 7 rfl rfl)
theorem dJ9_charAt_8 : decode cJ9_charAt 8 = .ok (.getfield 9, 3) := dk_180 0 9 (dk_at dksJ9_charAt_0 8 rfl rfl)
theorem dJ9_charAt_11 : decode cJ9_charAt 11 = .ok (.iload_n 1, 1) := dk_27 (dk_at dksJ9_charAt_0 11 rfl rfl)
theorem dJ9_charAt_12 : decode cJ9_charAt 12 = .ok (.invokestatic 495, 3) := dk_184 1 239 (dk_at dksJ9_charAt_0 12 rfl rfl)
theorem dJ9_charAt_15 : decode cJ9_charAt 15 = .ok (.ireturn, 1) := dk_172 (dk_at dksJ9_charAt_0 15 rfl rfl)
theorem dJ9_charAt_16 : decode cJ9_charAt 16 = .ok (.aload_n 0, 1) := dk_42 (dk_at dksJ9_charAt_0 16 rfl rfl)
theorem dJ9_charAt_17 : decode cJ9_charAt 17 = .ok (.getfield 9, 3) := dk_180 0 9 (dk_at dksJ9_charAt_0 17 rfl rfl)
theorem dJ9_charAt_20 : decode cJ9_charAt 20 = .ok (.iload_n 1, 1) := dk_27 (dk_at dksJ9_charAt_0 20 rfl rfl)
theorem dJ9_charAt_21 : decode cJ9_charAt 21 = .ok (.invokestatic 498, 3) := dk_184 1 242 (dk_at dksJ9_charAt_0 21 rfl rfl)
theorem dJ9_charAt_24 : decode cJ9_charAt 24 = .ok (.ireturn, 1) := dk_172 (dk_at dksJ9_charAt_1 0 rfl rfl)
abbrev cJ9_checkOffset : ByteArray := prog_36_method_156_code
def yJ9_checkOffset : MethodName := ⟨RJ9, "checkOffset", "(II)V"⟩
def dkwJ9_checkOffset_0 : List UInt8 := [26, 27, 27, 178, 4, 29, 184, 4, 38, 87, 177]
abbrev dktJ9_checkOffset_0 : List UInt8 := dkwJ9_checkOffset_0 ++ []
theorem dksJ9_checkOffset_0 : cJ9_checkOffset.data.toList.drop 0 = dktJ9_checkOffset_0 := by decide +kernel
theorem dJ9_checkOffset_0 : decode cJ9_checkOffset 0 = .ok (.iload_n 0, 1) := dk_26 (dk_at dksJ9_checkOffset_0 0 rfl rfl)
theorem dJ9_checkOffset_1 : decode cJ9_checkOffset 1 = .ok (.iload_n 1, 1) := dk_27 (dk_at dksJ9_checkOffset_0 1 rfl rfl)
theorem dJ9_checkOffset_2 : decode cJ9_checkOffset 2 = .ok (.iload_n 1, 1) := dk_27 (dk_at dksJ9_checkOffset_0 2 rfl rfl)
theorem dJ9_checkOffset_3 : decode cJ9_checkOffset 3 = .ok (.getstatic 1053, 3) := dk_178 4 29 (dk_at dksJ9_checkOffset_0 3 rfl rfl)
theorem dJ9_checkOffset_6 : decode cJ9_checkOffset 6 = .ok (.invokestatic 1062, 3) := dk_184 4 38 (dk_at dksJ9_checkOffset_0 6 rfl rfl)
theorem dJ9_checkOffset_9 : decode cJ9_checkOffset 9 = .ok (.pop, 1) := dk_87 (dk_at dksJ9_checkOffset_0 9 rfl rfl)
theorem dJ9_checkOffset_10 : decode cJ9_checkOffset 10 = .ok (.return_, 1) := dk_177 (dk_at dksJ9_checkOffset_0 10 rfl rfl)
abbrev cJ9_hashCode : ByteArray := prog_36_method_78_code
def yJ9_hashCode : MethodName := ⟨RJ9, "hashCode", "()I"⟩
def dkwJ9_hashCode_2 : List UInt8 := [181, 0, 23, 167, 0, 8, 42, 27, 181, 0, 19, 27, 172]
abbrev dktJ9_hashCode_2 : List UInt8 := dkwJ9_hashCode_2 ++ []
def dkwJ9_hashCode_1 : List UInt8 := [180, 0, 9, 184, 2, 116, 167, 0, 10, 42, 180, 0, 9, 184, 2, 120, 60, 27, 154, 0, 11, 42, 4]
abbrev dktJ9_hashCode_1 : List UInt8 := dkwJ9_hashCode_1 ++ dktJ9_hashCode_2
def dkwJ9_hashCode_0 : List UInt8 := [42, 180, 0, 19, 60, 27, 154, 0, 52, 42, 180, 0, 23, 154, 0, 45, 42, 182, 1, 236, 153, 0, 13, 42]
abbrev dktJ9_hashCode_0 : List UInt8 := dkwJ9_hashCode_0 ++ dktJ9_hashCode_1
theorem dksJ9_hashCode_0 : cJ9_hashCode.data.toList.drop 0 = dktJ9_hashCode_0 := by decide +kernel
theorem dksJ9_hashCode_1 : cJ9_hashCode.data.toList.drop 24 = dktJ9_hashCode_1 := dk_seg dksJ9_hashCode_0 24 rfl rfl
theorem dksJ9_hashCode_2 : cJ9_hashCode.data.toList.drop 47 = dktJ9_hashCode_2 := dk_seg dksJ9_hashCode_1 23 rfl rfl
theorem dJ9_hashCode_0 : decode cJ9_hashCode 0 = .ok (.aload_n 0, 1) := dk_42 (dk_at dksJ9_hashCode_0 0 rfl rfl)
theorem dJ9_hashCode_1 : decode cJ9_hashCode 1 = .ok (.getfield 19, 3) := dk_180 0 19 (dk_at dksJ9_hashCode_0 1 rfl rfl)
theorem dJ9_hashCode_4 : decode cJ9_hashCode 4 = .ok (.istore_n 1, 1) := dk_60 (dk_at dksJ9_hashCode_0 4 rfl rfl)
theorem dJ9_hashCode_5 : decode cJ9_hashCode 5 = .ok (.iload_n 1, 1) := dk_27 (dk_at dksJ9_hashCode_0 5 rfl rfl)
theorem dJ9_hashCode_6 : decode cJ9_hashCode 6 = .ok (.ifCond .ne 52, 3) := dk_154 0 52 (dk_at dksJ9_hashCode_0 6 rfl rfl)
theorem dJ9_hashCode_9 : decode cJ9_hashCode 9 = .ok (.aload_n 0, 1) := dk_42 (dk_at dksJ9_hashCode_0 9 rfl rfl)
theorem dJ9_hashCode_10 : decode cJ9_hashCode 10 = .ok (.getfield 23, 3) := dk_180 0 23 (dk_at dksJ9_hashCode_0 10 rfl rfl)
theorem dJ9_hashCode_13 : decode cJ9_hashCode 13 = .ok (.ifCond .ne 45, 3) := dk_154 0 45 (dk_at dksJ9_hashCode_0 13 rfl rfl)
theorem dJ9_hashCode_16 : decode cJ9_hashCode 16 = .ok (.aload_n 0, 1) := dk_42 (dk_at dksJ9_hashCode_0 16 rfl rfl)
theorem dJ9_hashCode_17 : decode cJ9_hashCode 17 = .ok (.invokevirtual 492, 3) := dk_182 1 236 (dk_at dksJ9_hashCode_0 17 rfl rfl)
theorem dJ9_hashCode_20 : decode cJ9_hashCode 20 = .ok (.ifCond .eq 13, 3) := dk_153 0 13 (dk_at dksJ9_hashCode_0 20 rfl rfl)
theorem dJ9_hashCode_23 : decode cJ9_hashCode 23 = .ok (.aload_n 0, 1) := dk_42 (dk_at dksJ9_hashCode_0 23 rfl rfl)
theorem dJ9_hashCode_24 : decode cJ9_hashCode 24 = .ok (.getfield 9, 3) := dk_180 0 9 (dk_at dksJ9_hashCode_1 0 rfl rfl)
theorem dJ9_hashCode_27 : decode cJ9_hashCode 27 = .ok (.invokestatic 628, 3) := dk_184 2 116 (dk_at dksJ9_hashCode_1 3 rfl rfl)
theorem dJ9_hashCode_30 : decode cJ9_hashCode 30 = .ok (.goto 10, 3) := dk_167 0 10 (dk_at dksJ9_hashCode_1 6 rfl rfl)
theorem dJ9_hashCode_33 : decode cJ9_hashCode 33 = .ok (.aload_n 0, 1) := dk_42 (dk_at dksJ9_hashCode_1 9 rfl rfl)
theorem dJ9_hashCode_34 : decode cJ9_hashCode 34 = .ok (.getfield 9, 3) := dk_180 0 9 (dk_at dksJ9_hashCode_1 10 rfl rfl)
theorem dJ9_hashCode_37 : decode cJ9_hashCode 37 = .ok (.invokestatic 632, 3) := dk_184 2 120 (dk_at dksJ9_hashCode_1 13 rfl rfl)
theorem dJ9_hashCode_40 : decode cJ9_hashCode 40 = .ok (.istore_n 1, 1) := dk_60 (dk_at dksJ9_hashCode_1 16 rfl rfl)
theorem dJ9_hashCode_41 : decode cJ9_hashCode 41 = .ok (.iload_n 1, 1) := dk_27 (dk_at dksJ9_hashCode_1 17 rfl rfl)
theorem dJ9_hashCode_42 : decode cJ9_hashCode 42 = .ok (.ifCond .ne 11, 3) := dk_154 0 11 (dk_at dksJ9_hashCode_1 18 rfl rfl)
theorem dJ9_hashCode_45 : decode cJ9_hashCode 45 = .ok (.aload_n 0, 1) := dk_42 (dk_at dksJ9_hashCode_1 21 rfl rfl)
theorem dJ9_hashCode_46 : decode cJ9_hashCode 46 = .ok (.iconst 1, 1) := dk_4 (dk_at dksJ9_hashCode_1 22 rfl rfl)
theorem dJ9_hashCode_47 : decode cJ9_hashCode 47 = .ok (.putfield 23, 3) := dk_181 0 23 (dk_at dksJ9_hashCode_2 0 rfl rfl)
theorem dJ9_hashCode_50 : decode cJ9_hashCode 50 = .ok (.goto 8, 3) := dk_167 0 8 (dk_at dksJ9_hashCode_2 3 rfl rfl)
theorem dJ9_hashCode_53 : decode cJ9_hashCode 53 = .ok (.aload_n 0, 1) := dk_42 (dk_at dksJ9_hashCode_2 6 rfl rfl)
theorem dJ9_hashCode_54 : decode cJ9_hashCode 54 = .ok (.iload_n 1, 1) := dk_27 (dk_at dksJ9_hashCode_2 7 rfl rfl)
theorem dJ9_hashCode_55 : decode cJ9_hashCode 55 = .ok (.putfield 19, 3) := dk_181 0 19 (dk_at dksJ9_hashCode_2 8 rfl rfl)
theorem dJ9_hashCode_58 : decode cJ9_hashCode 58 = .ok (.iload_n 1, 1) := dk_27 (dk_at dksJ9_hashCode_2 11 rfl rfl)
theorem dJ9_hashCode_59 : decode cJ9_hashCode 59 = .ok (.ireturn, 1) := dk_172 (dk_at dksJ9_hashCode_2 12 rfl rfl)
theorem q140 : (Jvm.Cond.initialized "java/lang/String") ∈ lw_all := lw_g (lw_at lw_m1 12 rfl) rfl
theorem q260 : (Jvm.Cond.laysStatic "java/lang/String" "COMPACT_STRINGS" "Z") ∈ lw_tbl := lw_at lw_m1 132 rfl
theorem q271 : (Jvm.Cond.fieldLink "java/lang/String" (1048 : Nat) "java/lang/AbstractStringBuilder" "maybeLatin1" "Z") ∈ lw_all := lw_g (lw_at lw_m1 143 rfl) rfl
theorem q345 : (Jvm.Cond.static ({ cls := "java/lang/String", name := "checkBoundsBeginEnd", desc := "(III)V" } : Jvm.MethodName)) ∈ lw_all := lw_g (lw_at lw_m1 217 rfl) rfl
theorem q346 : (Jvm.Cond.code ({ cls := "java/lang/String", name := "checkBoundsBeginEnd", desc := "(III)V" } : Jvm.MethodName) prog_36_method_158_code (3 : Nat) (Option.none : Option Jvm.ClassFile.FieldType)) ∈ lw_all := lw_g (lw_at lw_m1 218 rfl) rfl
theorem q347 : (Jvm.Cond.fieldLink "java/lang/String" (1053 : Nat) "jdk/internal/util/Preconditions" "SIOOBE_FORMATTER" "Ljava/util/function/BiFunction;") ∈ lw_all := lw_g (lw_at lw_m1 219 rfl) rfl
theorem q349 : (Jvm.Cond.methodLink "java/lang/String" (1062 : Nat) ({ cls := "jdk/internal/util/Preconditions", name := "checkFromToIndex", desc := "(IIILjava/util/function/BiFunction;)I" } : Jvm.MethodName)) ∈ lw_all := lw_g (lw_at lw_m1 221 rfl) rfl
theorem q362 : (Jvm.Cond.instanceMethod ({ cls := "java/lang/String", name := "length", desc := "()I" } : Jvm.MethodName)) ∈ lw_all := lw_g (lw_at lw_m1 234 rfl) rfl
theorem q363 : (Jvm.Cond.selects "java/lang/String" ({ cls := "java/lang/String", name := "length", desc := "()I" } : Jvm.MethodName) ({ cls := "java/lang/String", name := "length", desc := "()I" } : Jvm.MethodName)) ∈ lw_all := lw_g (lw_at lw_m1 235 rfl) rfl
theorem q364 : (Jvm.Cond.code ({ cls := "java/lang/String", name := "length", desc := "()I" } : Jvm.MethodName) prog_36_method_54_code (1 : Nat) (Option.some Jvm.ClassFile.FieldType.int)) ∈ lw_all := lw_g (lw_at lw_m1 236 rfl) rfl
theorem q365 : (Jvm.Cond.methodLink "java/lang/String" (335 : Nat) ({ cls := "java/lang/String", name := "coder", desc := "()B" } : Jvm.MethodName)) ∈ lw_all := lw_g (lw_at lw_m1 237 rfl) rfl
theorem q366 : (Jvm.Cond.instanceMethod ({ cls := "java/lang/String", name := "coder", desc := "()B" } : Jvm.MethodName)) ∈ lw_all := lw_g (lw_at lw_m1 238 rfl) rfl
theorem q367 : (Jvm.Cond.selects "java/lang/String" ({ cls := "java/lang/String", name := "coder", desc := "()B" } : Jvm.MethodName) ({ cls := "java/lang/String", name := "coder", desc := "()B" } : Jvm.MethodName)) ∈ lw_all := lw_g (lw_at lw_m1 239 rfl) rfl
theorem q368 : (Jvm.Cond.code ({ cls := "java/lang/String", name := "coder", desc := "()B" } : Jvm.MethodName) prog_36_method_152_code (1 : Nat) (Option.some Jvm.ClassFile.FieldType.byte)) ∈ lw_all := lw_g (lw_at lw_m2 0 rfl) rfl
theorem q369 : (Jvm.Cond.fieldLink "java/lang/String" (38 : Nat) "java/lang/String" "COMPACT_STRINGS" "Z") ∈ lw_all := lw_g (lw_at lw_m2 1 rfl) rfl
theorem q393 : (Jvm.Cond.static ({ cls := "java/lang/String", name := "checkBoundsOffCount", desc := "(III)I" } : Jvm.MethodName)) ∈ lw_all := lw_g (lw_at lw_m2 25 rfl) rfl
theorem q394 : (Jvm.Cond.code ({ cls := "java/lang/String", name := "checkBoundsOffCount", desc := "(III)I" } : Jvm.MethodName) prog_36_method_157_code (3 : Nat) (Option.some Jvm.ClassFile.FieldType.int)) ∈ lw_all := lw_g (lw_at lw_m2 26 rfl) rfl
theorem q395 : (Jvm.Cond.methodLink "java/lang/String" (1065 : Nat) ({ cls := "jdk/internal/util/Preconditions", name := "checkFromIndexSize", desc := "(IIILjava/util/function/BiFunction;)I" } : Jvm.MethodName)) ∈ lw_all := lw_g (lw_at lw_m2 27 rfl) rfl
theorem q399 : (Jvm.Cond.instanceMethod ({ cls := "java/lang/String", name := "getBytes", desc := "([BIB)V" } : Jvm.MethodName)) ∈ lw_all := lw_g (lw_at lw_m2 31 rfl) rfl
theorem q400 : (Jvm.Cond.selects "java/lang/String" ({ cls := "java/lang/String", name := "getBytes", desc := "([BIB)V" } : Jvm.MethodName) ({ cls := "java/lang/String", name := "getBytes", desc := "([BIB)V" } : Jvm.MethodName)) ∈ lw_all := lw_g (lw_at lw_m2 32 rfl) rfl
theorem q401 : (Jvm.Cond.code ({ cls := "java/lang/String", name := "getBytes", desc := "([BIB)V" } : Jvm.MethodName) prog_36_method_147_code (4 : Nat) (Option.none : Option Jvm.ClassFile.FieldType)) ∈ lw_all := lw_g (lw_at lw_m2 33 rfl) rfl
theorem q402 : (Jvm.Cond.methodLink "java/lang/String" (212 : Nat) ({ cls := "java/lang/System", name := "arraycopy", desc := "(Ljava/lang/Object;ILjava/lang/Object;II)V" } : Jvm.MethodName)) ∈ lw_all := lw_g (lw_at lw_m2 34 rfl) rfl
theorem q403 : (Jvm.Cond.methodLink "java/lang/String" (106 : Nat) ({ cls := "java/lang/StringLatin1", name := "inflate", desc := "([BI[BII)V" } : Jvm.MethodName)) ∈ lw_all := lw_g (lw_at lw_m2 35 rfl) rfl
theorem q434 : (Jvm.Cond.instantiable "java/lang/String" (4 : Nat)) ∈ lw_all := lw_g (lw_at lw_m2 66 rfl) rfl
theorem q436 : (Jvm.Cond.instanceMethod ({ cls := "java/lang/String", name := "<init>", desc := "(Ljava/lang/StringBuilder;)V" } : Jvm.MethodName)) ∈ lw_all := lw_g (lw_at lw_m2 68 rfl) rfl
theorem q437 : (Jvm.Cond.code ({ cls := "java/lang/String", name := "<init>", desc := "(Ljava/lang/StringBuilder;)V" } : Jvm.MethodName) prog_36_method_53_code (2 : Nat) (Option.none : Option Jvm.ClassFile.FieldType)) ∈ lw_all := lw_g (lw_at lw_m2 69 rfl) rfl
theorem q438 : (Jvm.Cond.methodLink "java/lang/String" (489 : Nat) ({ cls := "java/lang/String", name := "<init>", desc := "(Ljava/lang/AbstractStringBuilder;Ljava/lang/Void;)V" } : Jvm.MethodName)) ∈ lw_all := lw_g (lw_at lw_m2 70 rfl) rfl
theorem q439 : (Jvm.Cond.instanceMethod ({ cls := "java/lang/String", name := "<init>", desc := "(Ljava/lang/AbstractStringBuilder;Ljava/lang/Void;)V" } : Jvm.MethodName)) ∈ lw_all := lw_g (lw_at lw_m2 71 rfl) rfl
theorem q440 : (Jvm.Cond.code ({ cls := "java/lang/String", name := "<init>", desc := "(Ljava/lang/AbstractStringBuilder;Ljava/lang/Void;)V" } : Jvm.MethodName) prog_36_method_150_code (5 : Nat) (Option.none : Option Jvm.ClassFile.FieldType)) ∈ lw_all := lw_g (lw_at lw_m2 72 rfl) rfl
theorem q441 : (Jvm.Cond.methodLink "java/lang/String" (1 : Nat) ({ cls := "java/lang/Object", name := "<init>", desc := "()V" } : Jvm.MethodName)) ∈ lw_all := lw_g (lw_at lw_m2 73 rfl) rfl
theorem q442 : (Jvm.Cond.methodLink "java/lang/String" (552 : Nat) ({ cls := "java/lang/AbstractStringBuilder", name := "getValue", desc := "()[B" } : Jvm.MethodName)) ∈ lw_all := lw_g (lw_at lw_m2 74 rfl) rfl
theorem q447 : (Jvm.Cond.methodLink "java/lang/String" (549 : Nat) ({ cls := "java/lang/AbstractStringBuilder", name := "length", desc := "()I" } : Jvm.MethodName)) ∈ lw_all := lw_g (lw_at lw_m2 79 rfl) rfl
theorem q455 : (Jvm.Cond.methodLink "java/lang/String" (1047 : Nat) ({ cls := "java/lang/AbstractStringBuilder", name := "isLatin1", desc := "()Z" } : Jvm.MethodName)) ∈ lw_all := lw_g (lw_at lw_m2 87 rfl) rfl
theorem q456 : (Jvm.Cond.methodLink "java/lang/String" (54 : Nat) ({ cls := "java/util/Arrays", name := "copyOfRange", desc := "([BII)[B" } : Jvm.MethodName)) ∈ lw_all := lw_g (lw_at lw_m2 88 rfl) rfl
theorem q497 : (Jvm.Cond.methodLink "java/lang/String" (1051 : Nat) ({ cls := "java/lang/StringUTF16", name := "compress", desc := "([BII)[B" } : Jvm.MethodName)) ∈ lw_all := lw_g (lw_at lw_m2 129 rfl) rfl
theorem q507 : (Jvm.Cond.methodLink "java/lang/String" (47 : Nat) ({ cls := "java/lang/StringUTF16", name := "coderFromArrayLen", desc := "([BI)B" } : Jvm.MethodName)) ∈ lw_all := lw_g (lw_at lw_m2 139 rfl) rfl
theorem q510 : (Jvm.Cond.fieldLink "java/lang/String" (9 : Nat) "java/lang/String" "value" "[B") ∈ lw_all := lw_g (lw_at lw_m2 142 rfl) rfl
theorem q511 : (Jvm.Cond.fieldLink "java/lang/String" (15 : Nat) "java/lang/String" "coder" "B") ∈ lw_all := lw_g (lw_at lw_m2 143 rfl) rfl
theorem q512 : (Jvm.Cond.fieldLink "java/lang/String" (19 : Nat) "java/lang/String" "hash" "I") ∈ lw_all := lw_g (lw_at lw_m2 144 rfl) rfl
theorem q513 : (Jvm.Cond.fieldLink "java/lang/String" (23 : Nat) "java/lang/String" "hashIsZero" "Z") ∈ lw_all := lw_g (lw_at lw_m2 145 rfl) rfl
theorem q514 : (Jvm.Cond.laysFinal "java/lang/String" "java/lang/String" "value" "[B") ∈ lw_all := lw_g (lw_at lw_m2 146 rfl) rfl
theorem q515 : (Jvm.Cond.soleField "java/lang/String" "value") ∈ lw_all := lw_g (lw_at lw_m2 147 rfl) rfl
theorem q516 : (Jvm.Cond.laysFinal "java/lang/String" "java/lang/String" "coder" "B") ∈ lw_all := lw_g (lw_at lw_m2 148 rfl) rfl
theorem q517 : (Jvm.Cond.soleField "java/lang/String" "coder") ∈ lw_all := lw_g (lw_at lw_m2 149 rfl) rfl
theorem q518 : (Jvm.Cond.lays "java/lang/String" "java/lang/String" "hash" "I") ∈ lw_all := lw_g (lw_at lw_m2 150 rfl) rfl
theorem q519 : (Jvm.Cond.soleField "java/lang/String" "hash") ∈ lw_all := lw_g (lw_at lw_m2 151 rfl) rfl
theorem q520 : (Jvm.Cond.lays "java/lang/String" "java/lang/String" "hashIsZero" "Z") ∈ lw_all := lw_g (lw_at lw_m2 152 rfl) rfl
theorem q521 : (Jvm.Cond.soleField "java/lang/String" "hashIsZero") ∈ lw_all := lw_g (lw_at lw_m2 153 rfl) rfl
theorem q522 : (Jvm.Cond.superclass "java/lang/String" "java/lang/Object") ∈ lw_all := lw_g (lw_at lw_m2 154 rfl) rfl
theorem q1012 : (Jvm.Cond.selects "java/lang/String" ({ cls := "java/lang/Object", name := "getClass", desc := "()Ljava/lang/Class;" } : Jvm.MethodName) ({ cls := "java/lang/Object", name := "getClass", desc := "()Ljava/lang/Class;" } : Jvm.MethodName)) ∈ lw_all := lw_g (lw_at lw_m4 164 rfl) rfl
theorem q1101 : (Jvm.Cond.static ({ cls := "java/lang/String", name := "checkIndex", desc := "(II)V" } : Jvm.MethodName)) ∈ lw_all := lw_g (lw_at lw_m5 13 rfl) rfl
theorem q1102 : (Jvm.Cond.code ({ cls := "java/lang/String", name := "checkIndex", desc := "(II)V" } : Jvm.MethodName) prog_36_method_155_code (2 : Nat) (Option.none : Option Jvm.ClassFile.FieldType)) ∈ lw_all := lw_g (lw_at lw_m5 14 rfl) rfl
theorem q1103 : (Jvm.Cond.methodLink "java/lang/String" (1059 : Nat) ({ cls := "jdk/internal/util/Preconditions", name := "checkIndex", desc := "(IILjava/util/function/BiFunction;)I" } : Jvm.MethodName)) ∈ lw_all := lw_g (lw_at lw_m5 15 rfl) rfl
theorem q1148 : (Jvm.Cond.instanceMethod ({ cls := "java/lang/String", name := "contentEquals", desc := "(Ljava/lang/CharSequence;)Z" } : Jvm.MethodName)) ∈ lw_all := lw_g (lw_at lw_m5 60 rfl) rfl
theorem q1149 : (Jvm.Cond.selects "java/lang/String" ({ cls := "java/lang/String", name := "contentEquals", desc := "(Ljava/lang/CharSequence;)Z" } : Jvm.MethodName) ({ cls := "java/lang/String", name := "contentEquals", desc := "(Ljava/lang/CharSequence;)Z" } : Jvm.MethodName)) ∈ lw_all := lw_g (lw_at lw_m5 61 rfl) rfl
theorem q1150 : (Jvm.Cond.codeWith ({ cls := "java/lang/String", name := "contentEquals", desc := "(Ljava/lang/CharSequence;)Z" } : Jvm.MethodName) prog_36_method_69_code (5 : Nat) (Option.some Jvm.ClassFile.FieldType.boolean) [((18 : Nat), (28 : Nat), (29 : Nat), (0 : Nat)), ((29 : Nat), (32 : Nat), (29 : Nat), (0 : Nat))]) ∈ lw_all := lw_g (lw_at lw_m5 62 rfl) rfl
theorem q1151 : (Jvm.Cond.classLink "java/lang/String" (550 : Nat) "java/lang/AbstractStringBuilder") ∈ lw_all := lw_g (lw_at lw_m5 63 rfl) rfl
theorem q1152 : (Jvm.Cond.classLink "java/lang/String" (486 : Nat) "java/lang/StringBuffer") ∈ lw_all := lw_g (lw_at lw_m5 64 rfl) rfl
theorem q1153 : (Jvm.Cond.methodLink "java/lang/String" (567 : Nat) ({ cls := "java/lang/String", name := "nonSyncContentEquals", desc := "(Ljava/lang/AbstractStringBuilder;)Z" } : Jvm.MethodName)) ∈ lw_all := lw_g (lw_at lw_m5 65 rfl) rfl
theorem q1154 : (Jvm.Cond.privateMethod ({ cls := "java/lang/String", name := "nonSyncContentEquals", desc := "(Ljava/lang/AbstractStringBuilder;)Z" } : Jvm.MethodName)) ∈ lw_tbl := lw_at lw_m5 66 rfl
theorem q1155 : (Jvm.Cond.instanceMethod ({ cls := "java/lang/String", name := "nonSyncContentEquals", desc := "(Ljava/lang/AbstractStringBuilder;)Z" } : Jvm.MethodName)) ∈ lw_all := lw_g (lw_at lw_m5 67 rfl) rfl
theorem q1156 : (Jvm.Cond.code ({ cls := "java/lang/String", name := "nonSyncContentEquals", desc := "(Ljava/lang/AbstractStringBuilder;)Z" } : Jvm.MethodName) prog_36_method_68_code (6 : Nat) (Option.some Jvm.ClassFile.FieldType.boolean)) ∈ lw_all := lw_g (lw_at lw_m5 68 rfl) rfl
theorem q1157 : (Jvm.Cond.methodLink "java/lang/String" (505 : Nat) ({ cls := "java/lang/String", name := "length", desc := "()I" } : Jvm.MethodName)) ∈ lw_all := lw_g (lw_at lw_m5 69 rfl) rfl
theorem q1158 : (Jvm.Cond.methodLink "java/lang/String" (555 : Nat) ({ cls := "java/lang/AbstractStringBuilder", name := "getCoder", desc := "()B" } : Jvm.MethodName)) ∈ lw_all := lw_g (lw_at lw_m5 70 rfl) rfl
theorem q1163 : (Jvm.Cond.methodLink "java/lang/String" (558 : Nat) ({ cls := "jdk/internal/util/ArraysSupport", name := "mismatch", desc := "([B[BI)I" } : Jvm.MethodName)) ∈ lw_all := lw_g (lw_at lw_m5 75 rfl) rfl
theorem q1267 : (Jvm.Cond.methodLink "java/lang/String" (564 : Nat) ({ cls := "java/lang/StringUTF16", name := "contentEquals", desc := "([B[BI)Z" } : Jvm.MethodName)) ∈ lw_all := lw_g (lw_at lw_m5 179 rfl) rfl
theorem q1270 : (Jvm.Cond.classLink "java/lang/String" (10 : Nat) "java/lang/String") ∈ lw_all := lw_g (lw_at lw_m5 182 rfl) rfl
theorem q1271 : (Jvm.Cond.methodLink "java/lang/String" (571 : Nat) ({ cls := "java/lang/String", name := "equals", desc := "(Ljava/lang/Object;)Z" } : Jvm.MethodName)) ∈ lw_all := lw_g (lw_at lw_m5 183 rfl) rfl
theorem q1272 : (Jvm.Cond.instanceMethod ({ cls := "java/lang/String", name := "equals", desc := "(Ljava/lang/Object;)Z" } : Jvm.MethodName)) ∈ lw_all := lw_g (lw_at lw_m5 184 rfl) rfl
theorem q1273 : (Jvm.Cond.selects "java/lang/String" ({ cls := "java/lang/String", name := "equals", desc := "(Ljava/lang/Object;)Z" } : Jvm.MethodName) ({ cls := "java/lang/String", name := "equals", desc := "(Ljava/lang/Object;)Z" } : Jvm.MethodName)) ∈ lw_all := lw_g (lw_at lw_m5 185 rfl) rfl
theorem q1274 : (Jvm.Cond.code ({ cls := "java/lang/String", name := "equals", desc := "(Ljava/lang/Object;)Z" } : Jvm.MethodName) prog_36_method_66_code (3 : Nat) (Option.some Jvm.ClassFile.FieldType.boolean)) ∈ lw_all := lw_g (lw_at lw_m5 186 rfl) rfl
theorem q1275 : (Jvm.Cond.methodLink "java/lang/String" (541 : Nat) ({ cls := "java/lang/StringLatin1", name := "equals", desc := "([B[B)Z" } : Jvm.MethodName)) ∈ lw_all := lw_g (lw_at lw_m5 187 rfl) rfl
theorem q1278 : (Jvm.Cond.interfaceEntry "java/lang/String" (574 : Nat)) ∈ lw_tbl := lw_at lw_m5 190 rfl
theorem q1279 : (Jvm.Cond.methodLink "java/lang/String" (574 : Nat) ({ cls := "java/lang/CharSequence", name := "length", desc := "()I" } : Jvm.MethodName)) ∈ lw_all := lw_g (lw_at lw_m5 191 rfl) rfl
theorem q1282 : (Jvm.Cond.castable "java/lang/String" "java/lang/CharSequence") ∈ lw_tbl := lw_at lw_m5 194 rfl
theorem q1283 : (Jvm.Cond.selects "java/lang/String" ({ cls := "java/lang/CharSequence", name := "length", desc := "()I" } : Jvm.MethodName) ({ cls := "java/lang/String", name := "length", desc := "()I" } : Jvm.MethodName)) ∈ lw_all := lw_g (lw_at lw_m5 195 rfl) rfl
theorem q1284 : (Jvm.Cond.unhidden "java/lang/String" "length" "()I") ∈ lw_tbl := lw_at lw_m5 196 rfl
theorem q1285 : (Jvm.Cond.publicMethod ({ cls := "java/lang/String", name := "length", desc := "()I" } : Jvm.MethodName)) ∈ lw_tbl := lw_at lw_m5 197 rfl
theorem q1290 : (Jvm.Cond.methodLink "java/lang/String" (492 : Nat) ({ cls := "java/lang/String", name := "isLatin1", desc := "()Z" } : Jvm.MethodName)) ∈ lw_all := lw_g (lw_at lw_m5 202 rfl) rfl
theorem q1291 : (Jvm.Cond.instanceMethod ({ cls := "java/lang/String", name := "isLatin1", desc := "()Z" } : Jvm.MethodName)) ∈ lw_all := lw_g (lw_at lw_m5 203 rfl) rfl
theorem q1292 : (Jvm.Cond.selects "java/lang/String" ({ cls := "java/lang/String", name := "isLatin1", desc := "()Z" } : Jvm.MethodName) ({ cls := "java/lang/String", name := "isLatin1", desc := "()Z" } : Jvm.MethodName)) ∈ lw_all := lw_g (lw_at lw_m5 204 rfl) rfl
theorem q1293 : (Jvm.Cond.code ({ cls := "java/lang/String", name := "isLatin1", desc := "()Z" } : Jvm.MethodName) prog_36_method_154_code (1 : Nat) (Option.some Jvm.ClassFile.FieldType.boolean)) ∈ lw_all := lw_g (lw_at lw_m5 205 rfl) rfl
theorem q1294 : (Jvm.Cond.interfaceEntry "java/lang/String" (577 : Nat)) ∈ lw_tbl := lw_at lw_m5 206 rfl
theorem q1295 : (Jvm.Cond.methodLink "java/lang/String" (577 : Nat) ({ cls := "java/lang/CharSequence", name := "charAt", desc := "(I)C" } : Jvm.MethodName)) ∈ lw_all := lw_g (lw_at lw_m5 207 rfl) rfl
theorem q1298 : (Jvm.Cond.selects "java/lang/String" ({ cls := "java/lang/CharSequence", name := "charAt", desc := "(I)C" } : Jvm.MethodName) ({ cls := "java/lang/String", name := "charAt", desc := "(I)C" } : Jvm.MethodName)) ∈ lw_all := lw_g (lw_at lw_m5 210 rfl) rfl
theorem q1299 : (Jvm.Cond.unhidden "java/lang/String" "charAt" "(I)C") ∈ lw_tbl := lw_at lw_m5 211 rfl
theorem q1300 : (Jvm.Cond.instanceMethod ({ cls := "java/lang/String", name := "charAt", desc := "(I)C" } : Jvm.MethodName)) ∈ lw_all := lw_g (lw_at lw_m5 212 rfl) rfl
theorem q1301 : (Jvm.Cond.publicMethod ({ cls := "java/lang/String", name := "charAt", desc := "(I)C" } : Jvm.MethodName)) ∈ lw_tbl := lw_at lw_m5 213 rfl
theorem q1302 : (Jvm.Cond.code ({ cls := "java/lang/String", name := "charAt", desc := "(I)C" } : Jvm.MethodName) prog_36_method_56_code (2 : Nat) (Option.some Jvm.ClassFile.FieldType.char)) ∈ lw_all := lw_g (lw_at lw_m5 214 rfl) rfl
theorem q1303 : (Jvm.Cond.methodLink "java/lang/String" (495 : Nat) ({ cls := "java/lang/StringLatin1", name := "charAt", desc := "([BI)C" } : Jvm.MethodName)) ∈ lw_all := lw_g (lw_at lw_m5 215 rfl) rfl
theorem q1307 : (Jvm.Cond.methodLink "java/lang/String" (498 : Nat) ({ cls := "java/lang/StringUTF16", name := "charAt", desc := "([BI)C" } : Jvm.MethodName)) ∈ lw_all := lw_g (lw_at lw_m5 219 rfl) rfl
theorem q1313 : (Jvm.Cond.methodLink "java/lang/String" (579 : Nat) ({ cls := "java/lang/StringUTF16", name := "contentEquals", desc := "([BLjava/lang/CharSequence;I)Z" } : Jvm.MethodName)) ∈ lw_all := lw_g (lw_at lw_m5 225 rfl) rfl
theorem q1320 : (Jvm.Cond.static ({ cls := "java/lang/String", name := "checkOffset", desc := "(II)V" } : Jvm.MethodName)) ∈ lw_all := lw_g (lw_at lw_m5 232 rfl) rfl
theorem q1321 : (Jvm.Cond.code ({ cls := "java/lang/String", name := "checkOffset", desc := "(II)V" } : Jvm.MethodName) prog_36_method_156_code (2 : Nat) (Option.none : Option Jvm.ClassFile.FieldType)) ∈ lw_all := lw_g (lw_at lw_m5 233 rfl) rfl
theorem q1446 : (Jvm.Cond.instanceMethod ({ cls := "java/lang/String", name := "hashCode", desc := "()I" } : Jvm.MethodName)) ∈ lw_all := lw_g (lw_at lw_m6 118 rfl) rfl
theorem q1447 : (Jvm.Cond.selects "java/lang/String" ({ cls := "java/lang/String", name := "hashCode", desc := "()I" } : Jvm.MethodName) ({ cls := "java/lang/String", name := "hashCode", desc := "()I" } : Jvm.MethodName)) ∈ lw_all := lw_g (lw_at lw_m6 119 rfl) rfl
theorem q1448 : (Jvm.Cond.code ({ cls := "java/lang/String", name := "hashCode", desc := "()I" } : Jvm.MethodName) prog_36_method_78_code (2 : Nat) (Option.some Jvm.ClassFile.FieldType.int)) ∈ lw_all := lw_g (lw_at lw_m6 120 rfl) rfl
theorem q1449 : (Jvm.Cond.methodLink "java/lang/String" (628 : Nat) ({ cls := "java/lang/StringLatin1", name := "hashCode", desc := "([B)I" } : Jvm.MethodName)) ∈ lw_all := lw_g (lw_at lw_m6 121 rfl) rfl
theorem q1498 : (Jvm.Cond.methodLink "java/lang/String" (632 : Nat) ({ cls := "java/lang/StringUTF16", name := "hashCode", desc := "([B)I" } : Jvm.MethodName)) ∈ lw_all := lw_g (lw_at lw_m6 170 rfl) rfl
theorem q3261 : (Jvm.Cond.castable "java/lang/String" "java/lang/Object") ∈ lw_tbl := lw_at lw_m14 13 rfl
theorem in_J9 : ∀ w ∈ wsJ90, w ∈ lw_all := lw_in wsJ90 [514, 516, 518, 520] (by decide +kernel) (by decide +kernel)
/-! java/lang/StringUTF16 -/
set_option maxRecDepth 100000
def RJ10 : String := "java/lang/StringUTF16"
abbrev cJ10_newBytesFor : ByteArray := prog_41_method_2_code
def yJ10_newBytesFor : MethodName := ⟨RJ10, "newBytesFor", "(I)[B"⟩
def dkwJ10_newBytesFor_0 : List UInt8 := [26, 184, 0, 11, 188, 8, 176]
abbrev dktJ10_newBytesFor_0 : List UInt8 := dkwJ10_newBytesFor_0 ++ []
theorem dksJ10_newBytesFor_0 : cJ10_newBytesFor.data.toList.drop 0 = dktJ10_newBytesFor_0 := by decide +kernel
theorem dJ10_newBytesFor_0 : decode cJ10_newBytesFor 0 = .ok (.iload_n 0, 1) := dk_26 (dk_at dksJ10_newBytesFor_0 0 rfl rfl)
theorem dJ10_newBytesFor_1 : decode cJ10_newBytesFor 1 = .ok (.invokestatic 11, 3) := dk_184 0 11 (dk_at dksJ10_newBytesFor_0 1 rfl rfl)
theorem dJ10_newBytesFor_4 : decode cJ10_newBytesFor 4 = .ok (.newarray .byte, 2) := dk_188_8 (dk_at dksJ10_newBytesFor_0 4 rfl rfl)
theorem dJ10_newBytesFor_6 : decode cJ10_newBytesFor 6 = .ok (.areturn, 1) := dk_176 (dk_at dksJ10_newBytesFor_0 6 rfl rfl)
abbrev cJ10_newBytesLength : ByteArray := prog_41_method_3_code
def yJ10_newBytesLength : MethodName := ⟨RJ10, "newBytesLength", "(I)I"⟩
def dkwJ10_newBytesLength_2 : List UInt8 := [182, 0, 32, 182, 0, 37, 183, 0, 41, 191, 26, 4, 120, 172]
abbrev dktJ10_newBytesLength_2 : List UInt8 := dkwJ10_newBytesLength_2 ++ []
def dkwJ10_newBytesLength_1 : List UInt8 := [187, 0, 23, 89, 183, 0, 25, 18, 26, 182, 0, 28, 26, 182, 0, 32, 18, 35, 182, 0, 28, 18, 20]
abbrev dktJ10_newBytesLength_1 : List UInt8 := dkwJ10_newBytesLength_1 ++ dktJ10_newBytesLength_2
def dkwJ10_newBytesLength_0 : List UInt8 := [26, 156, 0, 11, 187, 0, 17, 89, 183, 0, 19, 191, 26, 18, 20, 161, 0, 40, 187, 0, 21, 89]
abbrev dktJ10_newBytesLength_0 : List UInt8 := dkwJ10_newBytesLength_0 ++ dktJ10_newBytesLength_1
theorem dksJ10_newBytesLength_0 : cJ10_newBytesLength.data.toList.drop 0 = dktJ10_newBytesLength_0 := by decide +kernel
theorem dksJ10_newBytesLength_1 : cJ10_newBytesLength.data.toList.drop 22 = dktJ10_newBytesLength_1 := dk_seg dksJ10_newBytesLength_0 22 rfl rfl
theorem dksJ10_newBytesLength_2 : cJ10_newBytesLength.data.toList.drop 45 = dktJ10_newBytesLength_2 := dk_seg dksJ10_newBytesLength_1 23 rfl rfl
theorem dJ10_newBytesLength_0 : decode cJ10_newBytesLength 0 = .ok (.iload_n 0, 1) := dk_26 (dk_at dksJ10_newBytesLength_0 0 rfl rfl)
theorem dJ10_newBytesLength_1 : decode cJ10_newBytesLength 1 = .ok (.ifCond .ge 11, 3) := dk_156 0 11 (dk_at dksJ10_newBytesLength_0 1 rfl rfl)
theorem dJ10_newBytesLength_4 : decode cJ10_newBytesLength 4 = .ok (.new 17, 3) := dk_187 0 17 (dk_at dksJ10_newBytesLength_0 4 rfl rfl)
theorem dJ10_newBytesLength_7 : decode cJ10_newBytesLength 7 = .ok (.dup, 1) := dk_89 (dk_at dksJ10_newBytesLength_0 7 rfl rfl)
theorem dJ10_newBytesLength_8 : decode cJ10_newBytesLength 8 = .ok (.invokespecial 19, 3) := dk_183 0 19 (dk_at dksJ10_newBytesLength_0 8 rfl rfl)
theorem dJ10_newBytesLength_11 : decode cJ10_newBytesLength 11 = .ok (.athrow, 1) := dk_191 (dk_at dksJ10_newBytesLength_0 11 rfl rfl)
theorem dJ10_newBytesLength_12 : decode cJ10_newBytesLength 12 = .ok (.iload_n 0, 1) := dk_26 (dk_at dksJ10_newBytesLength_0 12 rfl rfl)
theorem dJ10_newBytesLength_13 : decode cJ10_newBytesLength 13 = .ok (.ldc 20, 2) := dk_18 20 (dk_at dksJ10_newBytesLength_0 13 rfl rfl)
theorem dJ10_newBytesLength_15 : decode cJ10_newBytesLength 15 = .ok (.if_icmp .lt 40, 3) := dk_161 0 40 (dk_at dksJ10_newBytesLength_0 15 rfl rfl)
theorem dJ10_newBytesLength_18 : decode cJ10_newBytesLength 18 = .ok (.new 21, 3) := dk_187 0 21 (dk_at dksJ10_newBytesLength_0 18 rfl rfl)
theorem dJ10_newBytesLength_21 : decode cJ10_newBytesLength 21 = .ok (.dup, 1) := dk_89 (dk_at dksJ10_newBytesLength_0 21 rfl rfl)
theorem dJ10_newBytesLength_22 : decode cJ10_newBytesLength 22 = .ok (.new 23, 3) := dk_187 0 23 (dk_at dksJ10_newBytesLength_1 0 rfl rfl)
theorem dJ10_newBytesLength_25 : decode cJ10_newBytesLength 25 = .ok (.dup, 1) := dk_89 (dk_at dksJ10_newBytesLength_1 3 rfl rfl)
theorem dJ10_newBytesLength_26 : decode cJ10_newBytesLength 26 = .ok (.invokespecial 25, 3) := dk_183 0 25 (dk_at dksJ10_newBytesLength_1 4 rfl rfl)
theorem dJ10_newBytesLength_29 : decode cJ10_newBytesLength 29 = .ok (.ldc 26, 2) := dk_18 26 (dk_at dksJ10_newBytesLength_1 7 rfl rfl)
theorem dJ10_newBytesLength_31 : decode cJ10_newBytesLength 31 = .ok (.invokevirtual 28, 3) := dk_182 0 28 (dk_at dksJ10_newBytesLength_1 9 rfl rfl)
theorem dJ10_newBytesLength_34 : decode cJ10_newBytesLength 34 = .ok (.iload_n 0, 1) := dk_26 (dk_at dksJ10_newBytesLength_1 12 rfl rfl)
theorem dJ10_newBytesLength_35 : decode cJ10_newBytesLength 35 = .ok (.invokevirtual 32, 3) := dk_182 0 32 (dk_at dksJ10_newBytesLength_1 13 rfl rfl)
theorem dJ10_newBytesLength_38 : decode cJ10_newBytesLength 38 = .ok (.ldc 35, 2) := dk_18 35 (dk_at dksJ10_newBytesLength_1 16 rfl rfl)
theorem dJ10_newBytesLength_40 : decode cJ10_newBytesLength 40 = .ok (.invokevirtual 28, 3) := dk_182 0 28 (dk_at dksJ10_newBytesLength_1 18 rfl rfl)
theorem dJ10_newBytesLength_43 : decode cJ10_newBytesLength 43 = .ok (.ldc 20, 2) := dk_18 20 (dk_at dksJ10_newBytesLength_1 21 rfl rfl)
theorem dJ10_newBytesLength_45 : decode cJ10_newBytesLength 45 = .ok (.invokevirtual 32, 3) := dk_182 0 32 (dk_at dksJ10_newBytesLength_2 0 rfl rfl)
theorem dJ10_newBytesLength_48 : decode cJ10_newBytesLength 48 = .ok (.invokevirtual 37, 3) := dk_182 0 37 (dk_at dksJ10_newBytesLength_2 3 rfl rfl)
theorem dJ10_newBytesLength_51 : decode cJ10_newBytesLength 51 = .ok (.invokespecial 41, 3) := dk_183 0 41 (dk_at dksJ10_newBytesLength_2 6 rfl rfl)
theorem dJ10_newBytesLength_54 : decode cJ10_newBytesLength 54 = .ok (.athrow, 1) := dk_191 (dk_at dksJ10_newBytesLength_2 9 rfl rfl)
theorem dJ10_newBytesLength_55 : decode cJ10_newBytesLength 55 = .ok (.iload_n 0, 1) := dk_26 (dk_at dksJ10_newBytesLength_2 10 rfl rfl)
theorem dJ10_newBytesLength_56 : decode cJ10_newBytesLength 56 = .ok (.iconst 1, 1) := dk_4 (dk_at dksJ10_newBytesLength_2 11 rfl rfl)
theorem dJ10_newBytesLength_57 : decode cJ10_newBytesLength 57 = .ok (.ishl, 1) := dk_120 (dk_at dksJ10_newBytesLength_2 12 rfl rfl)
theorem dJ10_newBytesLength_58 : decode cJ10_newBytesLength 58 = .ok (.ireturn, 1) := dk_172 (dk_at dksJ10_newBytesLength_2 13 rfl rfl)
abbrev cJ10_putCharsAt : ByteArray := prog_41_method_81_code
def yJ10_putCharsAt : MethodName := ⟨RJ10, "putCharsAt", "([BICCCC)I"⟩
def dkwJ10_putCharsAt_3 : List UInt8 := [21, 6, 172]
abbrev dktJ10_putCharsAt_3 : List UInt8 := dkwJ10_putCharsAt_3 ++ []
def dkwJ10_putCharsAt_2 : List UInt8 := [184, 0, 111, 178, 0, 44, 154, 0, 17, 27, 21, 6, 159, 0, 11, 187, 0, 52, 89, 183, 0, 66, 191]
abbrev dktJ10_putCharsAt_2 : List UInt8 := dkwJ10_putCharsAt_2 ++ dktJ10_putCharsAt_3
def dkwJ10_putCharsAt_1 : List UInt8 := [132, 1, 1, 29, 184, 0, 111, 42, 27, 132, 1, 1, 21, 4, 184, 0, 111, 42, 27, 132, 1, 1, 21, 5]
abbrev dktJ10_putCharsAt_1 : List UInt8 := dkwJ10_putCharsAt_1 ++ dktJ10_putCharsAt_2
def dkwJ10_putCharsAt_0 : List UInt8 := [27, 7, 96, 54, 6, 27, 21, 6, 42, 184, 0, 96, 42, 27, 132, 1, 1, 28, 184, 0, 111, 42, 27]
abbrev dktJ10_putCharsAt_0 : List UInt8 := dkwJ10_putCharsAt_0 ++ dktJ10_putCharsAt_1
theorem dksJ10_putCharsAt_0 : cJ10_putCharsAt.data.toList.drop 0 = dktJ10_putCharsAt_0 := by decide +kernel
theorem dksJ10_putCharsAt_1 : cJ10_putCharsAt.data.toList.drop 23 = dktJ10_putCharsAt_1 := dk_seg dksJ10_putCharsAt_0 23 rfl rfl
theorem dksJ10_putCharsAt_2 : cJ10_putCharsAt.data.toList.drop 47 = dktJ10_putCharsAt_2 := dk_seg dksJ10_putCharsAt_1 24 rfl rfl
theorem dksJ10_putCharsAt_3 : cJ10_putCharsAt.data.toList.drop 70 = dktJ10_putCharsAt_3 := dk_seg dksJ10_putCharsAt_2 23 rfl rfl
theorem dJ10_putCharsAt_0 : decode cJ10_putCharsAt 0 = .ok (.iload_n 1, 1) := dk_27 (dk_at dksJ10_putCharsAt_0 0 rfl rfl)
theorem dJ10_putCharsAt_1 : decode cJ10_putCharsAt 1 = .ok (.iconst 4, 1) := dk_7 (dk_at dksJ10_putCharsAt_0 1 rfl rfl)
theorem dJ10_putCharsAt_2 : decode cJ10_putCharsAt 2 = .ok (.iadd, 1) := dk_96 (dk_at dksJ10_putCharsAt_0 2 rfl rfl)
theorem dJ10_putCharsAt_3 : decode cJ10_putCharsAt 3 = .ok (.istore 6, 2) := dk_54 6 (dk_at dksJ10_putCharsAt_0 3 rfl rfl)
theorem dJ10_putCharsAt_5 : decode cJ10_putCharsAt 5 = .ok (.iload_n 1, 1) := dk_27 (dk_at dksJ10_putCharsAt_0 5 rfl rfl)
theorem dJ10_putCharsAt_6 : decode cJ10_putCharsAt 6 = .ok (.iload 6, 2) := dk_21 6 (dk_at dksJ10_putCharsAt_0 6 rfl rfl)
theorem dJ10_putCharsAt_8 : decode cJ10_putCharsAt 8 = .ok (.aload_n 0, 1) := dk_42 (dk_at dksJ10_putCharsAt_0 8 rfl rfl)
theorem dJ10_putCharsAt_9 : decode cJ10_putCharsAt 9 = .ok (.invokestatic 96, 3) := dk_184 0 96 (dk_at dksJ10_putCharsAt_0 9 rfl rfl)
theorem dJ10_putCharsAt_12 : decode cJ10_putCharsAt 12 = .ok (.aload_n 0, 1) := dk_42 (dk_at dksJ10_putCharsAt_0 12 rfl rfl)
theorem dJ10_putCharsAt_13 : decode cJ10_putCharsAt 13 = .ok (.iload_n 1, 1) := dk_27 (dk_at dksJ10_putCharsAt_0 13 rfl rfl)
theorem dJ10_putCharsAt_14 : decode cJ10_putCharsAt 14 = .ok (.iinc 1 1, 3) := dk_132 1 1 (dk_at dksJ10_putCharsAt_0 14 rfl rfl)
theorem dJ10_putCharsAt_17 : decode cJ10_putCharsAt 17 = .ok (.iload_n 2, 1) := dk_28 (dk_at dksJ10_putCharsAt_0 17 rfl rfl)
theorem dJ10_putCharsAt_18 : decode cJ10_putCharsAt 18 = .ok (.invokestatic 111, 3) := dk_184 0 111 (dk_at dksJ10_putCharsAt_0 18 rfl rfl)
theorem dJ10_putCharsAt_21 : decode cJ10_putCharsAt 21 = .ok (.aload_n 0, 1) := dk_42 (dk_at dksJ10_putCharsAt_0 21 rfl rfl)
theorem dJ10_putCharsAt_22 : decode cJ10_putCharsAt 22 = .ok (.iload_n 1, 1) := dk_27 (dk_at dksJ10_putCharsAt_0 22 rfl rfl)
theorem dJ10_putCharsAt_23 : decode cJ10_putCharsAt 23 = .ok (.iinc 1 1, 3) := dk_132 1 1 (dk_at dksJ10_putCharsAt_1 0 rfl rfl)
theorem dJ10_putCharsAt_26 : decode cJ10_putCharsAt 26 = .ok (.iload_n 3, 1) := dk_29 (dk_at dksJ10_putCharsAt_1 3 rfl rfl)
theorem dJ10_putCharsAt_27 : decode cJ10_putCharsAt 27 = .ok (.invokestatic 111, 3) := dk_184 0 111 (dk_at dksJ10_putCharsAt_1 4 rfl rfl)
theorem dJ10_putCharsAt_30 : decode cJ10_putCharsAt 30 = .ok (.aload_n 0, 1) := dk_42 (dk_at dksJ10_putCharsAt_1 7 rfl rfl)
theorem dJ10_putCharsAt_31 : decode cJ10_putCharsAt 31 = .ok (.iload_n 1, 1) := dk_27 (dk_at dksJ10_putCharsAt_1 8 rfl rfl)
theorem dJ10_putCharsAt_32 : decode cJ10_putCharsAt 32 = .ok (.iinc 1 1, 3) := dk_132 1 1 (dk_at dksJ10_putCharsAt_1 9 rfl rfl)
theorem dJ10_putCharsAt_35 : decode cJ10_putCharsAt 35 = .ok (.iload 4, 2) := dk_21 4 (dk_at dksJ10_putCharsAt_1 12 rfl rfl)
theorem dJ10_putCharsAt_37 : decode cJ10_putCharsAt 37 = .ok (.invokestatic 111, 3) := dk_184 0 111 (dk_at dksJ10_putCharsAt_1 14 rfl rfl)
theorem dJ10_putCharsAt_40 : decode cJ10_putCharsAt 40 = .ok (.aload_n 0, 1) := dk_42 (dk_at dksJ10_putCharsAt_1 17 rfl rfl)
theorem dJ10_putCharsAt_41 : decode cJ10_putCharsAt 41 = .ok (.iload_n 1, 1) := dk_27 (dk_at dksJ10_putCharsAt_1 18 rfl rfl)
theorem dJ10_putCharsAt_42 : decode cJ10_putCharsAt 42 = .ok (.iinc 1 1, 3) := dk_132 1 1 (dk_at dksJ10_putCharsAt_1 19 rfl rfl)
theorem dJ10_putCharsAt_45 : decode cJ10_putCharsAt 45 = .ok (.iload 5, 2) := dk_21 5 (dk_at dksJ10_putCharsAt_1 22 rfl rfl)
theorem dJ10_putCharsAt_47 : decode cJ10_putCharsAt 47 = .ok (.invokestatic 111, 3) := dk_184 0 111 (dk_at dksJ10_putCharsAt_2 0 rfl rfl)
theorem dJ10_putCharsAt_50 : decode cJ10_putCharsAt 50 = .ok (.getstatic 44, 3) := dk_178 0 44 (dk_at dksJ10_putCharsAt_2 3 rfl rfl)
theorem dJ10_putCharsAt_53 : decode cJ10_putCharsAt 53 = .ok (.ifCond .ne 17, 3) := dk_154 0 17 (dk_at dksJ10_putCharsAt_2 6 rfl rfl)
theorem dJ10_putCharsAt_56 : decode cJ10_putCharsAt 56 = .ok (.iload_n 1, 1) := dk_27 (dk_at dksJ10_putCharsAt_2 9 rfl rfl)
theorem dJ10_putCharsAt_57 : decode cJ10_putCharsAt 57 = .ok (.iload 6, 2) := dk_21 6 (dk_at dksJ10_putCharsAt_2 10 rfl rfl)
theorem dJ10_putCharsAt_59 : decode cJ10_putCharsAt 59 = .ok (.if_icmp .eq 11, 3) := dk_159 0 11 (dk_at dksJ10_putCharsAt_2 12 rfl rfl)
theorem dJ10_putCharsAt_62 : decode cJ10_putCharsAt 62 = .ok (.new 52, 3) := dk_187 0 52 (dk_at dksJ10_putCharsAt_2 15 rfl rfl)
theorem dJ10_putCharsAt_65 : decode cJ10_putCharsAt 65 = .ok (.dup, 1) := dk_89 (dk_at dksJ10_putCharsAt_2 18 rfl rfl)
theorem dJ10_putCharsAt_66 : decode cJ10_putCharsAt 66 = .ok (.invokespecial 66, 3) := dk_183 0 66 (dk_at dksJ10_putCharsAt_2 19 rfl rfl)
theorem dJ10_putCharsAt_69 : decode cJ10_putCharsAt 69 = .ok (.athrow, 1) := dk_191 (dk_at dksJ10_putCharsAt_2 22 rfl rfl)
theorem dJ10_putCharsAt_70 : decode cJ10_putCharsAt 70 = .ok (.iload 6, 2) := dk_21 6 (dk_at dksJ10_putCharsAt_3 0 rfl rfl)
theorem dJ10_putCharsAt_72 : decode cJ10_putCharsAt 72 = .ok (.ireturn, 1) := dk_172 (dk_at dksJ10_putCharsAt_3 2 rfl rfl)
abbrev cJ10_checkBoundsBeginEnd : ByteArray := prog_41_method_93_code
def yJ10_checkBoundsBeginEnd : MethodName := ⟨RJ10, "checkBoundsBeginEnd", "(II[B)V"⟩
def dkwJ10_checkBoundsBeginEnd_0 : List UInt8 := [26, 27, 44, 184, 0, 48, 184, 0, 241, 177]
abbrev dktJ10_checkBoundsBeginEnd_0 : List UInt8 := dkwJ10_checkBoundsBeginEnd_0 ++ []
theorem dksJ10_checkBoundsBeginEnd_0 : cJ10_checkBoundsBeginEnd.data.toList.drop 0 = dktJ10_checkBoundsBeginEnd_0 := by decide +kernel
theorem dJ10_checkBoundsBeginEnd_0 : decode cJ10_checkBoundsBeginEnd 0 = .ok (.iload_n 0, 1) := dk_26 (dk_at dksJ10_checkBoundsBeginEnd_0 0 rfl rfl)
theorem dJ10_checkBoundsBeginEnd_1 : decode cJ10_checkBoundsBeginEnd 1 = .ok (.iload_n 1, 1) := dk_27 (dk_at dksJ10_checkBoundsBeginEnd_0 1 rfl rfl)
theorem dJ10_checkBoundsBeginEnd_2 : decode cJ10_checkBoundsBeginEnd 2 = .ok (.aload_n 2, 1) := dk_44 (dk_at dksJ10_checkBoundsBeginEnd_0 2 rfl rfl)
theorem dJ10_checkBoundsBeginEnd_3 : decode cJ10_checkBoundsBeginEnd 3 = .ok (.invokestatic 48, 3) := dk_184 0 48 (dk_at dksJ10_checkBoundsBeginEnd_0 3 rfl rfl)
theorem dJ10_checkBoundsBeginEnd_6 : decode cJ10_checkBoundsBeginEnd 6 = .ok (.invokestatic 241, 3) := dk_184 0 241 (dk_at dksJ10_checkBoundsBeginEnd_0 6 rfl rfl)
theorem dJ10_checkBoundsBeginEnd_9 : decode cJ10_checkBoundsBeginEnd 9 = .ok (.return_, 1) := dk_177 (dk_at dksJ10_checkBoundsBeginEnd_0 9 rfl rfl)
abbrev cJ10_length : ByteArray := prog_41_method_6_code
def yJ10_length : MethodName := ⟨RJ10, "length", "([B)I"⟩
def dkwJ10_length_0 : List UInt8 := [42, 190, 4, 122, 172]
abbrev dktJ10_length_0 : List UInt8 := dkwJ10_length_0 ++ []
theorem dksJ10_length_0 : cJ10_length.data.toList.drop 0 = dktJ10_length_0 := by decide +kernel
theorem dJ10_length_0 : decode cJ10_length 0 = .ok (.aload_n 0, 1) := dk_42 (dk_at dksJ10_length_0 0 rfl rfl)
theorem dJ10_length_1 : decode cJ10_length 1 = .ok (.arraylength, 1) := dk_190 (dk_at dksJ10_length_0 1 rfl rfl)
theorem dJ10_length_2 : decode cJ10_length 2 = .ok (.iconst 1, 1) := dk_4 (dk_at dksJ10_length_0 2 rfl rfl)
theorem dJ10_length_3 : decode cJ10_length 3 = .ok (.ishr, 1) := dk_122 (dk_at dksJ10_length_0 3 rfl rfl)
theorem dJ10_length_4 : decode cJ10_length 4 = .ok (.ireturn, 1) := dk_172 (dk_at dksJ10_length_0 4 rfl rfl)
abbrev cJ10_putChar : ByteArray := prog_41_method_4_code
def yJ10_putChar : MethodName := ⟨RJ10, "putChar", "([BII)V"⟩
def dkwJ10_putChar_2 : List UInt8 := [178, 0, 63, 122, 145, 84, 177]
abbrev dktJ10_putChar_2 : List UInt8 := dkwJ10_putChar_2 ++ []
def dkwJ10_putChar_1 : List UInt8 := [183, 0, 56, 191, 27, 4, 120, 60, 42, 27, 132, 1, 1, 28, 178, 0, 59, 122, 145, 84, 42, 27, 28]
abbrev dktJ10_putChar_1 : List UInt8 := dkwJ10_putChar_1 ++ dktJ10_putChar_2
def dkwJ10_putChar_0 : List UInt8 := [178, 0, 44, 154, 0, 25, 27, 155, 0, 11, 27, 42, 184, 0, 48, 161, 0, 13, 187, 0, 52, 89, 18, 54]
abbrev dktJ10_putChar_0 : List UInt8 := dkwJ10_putChar_0 ++ dktJ10_putChar_1
theorem dksJ10_putChar_0 : cJ10_putChar.data.toList.drop 0 = dktJ10_putChar_0 := by decide +kernel
theorem dksJ10_putChar_1 : cJ10_putChar.data.toList.drop 24 = dktJ10_putChar_1 := dk_seg dksJ10_putChar_0 24 rfl rfl
theorem dksJ10_putChar_2 : cJ10_putChar.data.toList.drop 47 = dktJ10_putChar_2 := dk_seg dksJ10_putChar_1 23 rfl rfl
theorem dJ10_putChar_0 : decode cJ10_putChar 0 = .ok (.getstatic 44, 3) := dk_178 0 44 (dk_at dksJ10_putChar_0 0 rfl rfl)
theorem dJ10_putChar_3 : decode cJ10_putChar 3 = .ok (.ifCond .ne 25, 3) := dk_154 0 25 (dk_at dksJ10_putChar_0 3 rfl rfl)
theorem dJ10_putChar_6 : decode cJ10_putChar 6 = .ok (.iload_n 1, 1) := dk_27 (dk_at dksJ10_putChar_0 6 rfl rfl)
theorem dJ10_putChar_7 : decode cJ10_putChar 7 = .ok (.ifCond .lt 11, 3) := dk_155 0 11 (dk_at dksJ10_putChar_0 7 rfl rfl)
theorem dJ10_putChar_10 : decode cJ10_putChar 10 = .ok (.iload_n 1, 1) := dk_27 (dk_at dksJ10_putChar_0 10 rfl rfl)
theorem dJ10_putChar_11 : decode cJ10_putChar 11 = .ok (.aload_n 0, 1) := dk_42 (dk_at dksJ10_putChar_0 11 rfl rfl)
theorem dJ10_putChar_12 : decode cJ10_putChar 12 = .ok (.invokestatic 48, 3) := dk_184 0 48 (dk_at dksJ10_putChar_0 12 rfl rfl)
theorem dJ10_putChar_15 : decode cJ10_putChar 15 = .ok (.if_icmp .lt 13, 3) := dk_161 0 13 (dk_at dksJ10_putChar_0 15 rfl rfl)
theorem dJ10_putChar_18 : decode cJ10_putChar 18 = .ok (.new 52, 3) := dk_187 0 52 (dk_at dksJ10_putChar_0 18 rfl rfl)
theorem dJ10_putChar_21 : decode cJ10_putChar 21 = .ok (.dup, 1) := dk_89 (dk_at dksJ10_putChar_0 21 rfl rfl)
theorem dJ10_putChar_22 : decode cJ10_putChar 22 = .ok (.ldc 54, 2) := dk_18 54 (dk_at dksJ10_putChar_0 22 rfl rfl)
theorem dJ10_putChar_24 : decode cJ10_putChar 24 = .ok (.invokespecial 56, 3) := dk_183 0 56 (dk_at dksJ10_putChar_1 0 rfl rfl)
theorem dJ10_putChar_27 : decode cJ10_putChar 27 = .ok (.athrow, 1) := dk_191 (dk_at dksJ10_putChar_1 3 rfl rfl)
theorem dJ10_putChar_28 : decode cJ10_putChar 28 = .ok (.iload_n 1, 1) := dk_27 (dk_at dksJ10_putChar_1 4 rfl rfl)
theorem dJ10_putChar_29 : decode cJ10_putChar 29 = .ok (.iconst 1, 1) := dk_4 (dk_at dksJ10_putChar_1 5 rfl rfl)
theorem dJ10_putChar_30 : decode cJ10_putChar 30 = .ok (.ishl, 1) := dk_120 (dk_at dksJ10_putChar_1 6 rfl rfl)
theorem dJ10_putChar_31 : decode cJ10_putChar 31 = .ok (.istore_n 1, 1) := dk_60 (dk_at dksJ10_putChar_1 7 rfl rfl)
theorem dJ10_putChar_32 : decode cJ10_putChar 32 = .ok (.aload_n 0, 1) := dk_42 (dk_at dksJ10_putChar_1 8 rfl rfl)
theorem dJ10_putChar_33 : decode cJ10_putChar 33 = .ok (.iload_n 1, 1) := dk_27 (dk_at dksJ10_putChar_1 9 rfl rfl)
theorem dJ10_putChar_34 : decode cJ10_putChar 34 = .ok (.iinc 1 1, 3) := dk_132 1 1 (dk_at dksJ10_putChar_1 10 rfl rfl)
theorem dJ10_putChar_37 : decode cJ10_putChar 37 = .ok (.iload_n 2, 1) := dk_28 (dk_at dksJ10_putChar_1 13 rfl rfl)
theorem dJ10_putChar_38 : decode cJ10_putChar 38 = .ok (.getstatic 59, 3) := dk_178 0 59 (dk_at dksJ10_putChar_1 14 rfl rfl)
theorem dJ10_putChar_41 : decode cJ10_putChar 41 = .ok (.ishr, 1) := dk_122 (dk_at dksJ10_putChar_1 17 rfl rfl)
theorem dJ10_putChar_42 : decode cJ10_putChar 42 = .ok (.i2b, 1) := dk_145 (dk_at dksJ10_putChar_1 18 rfl rfl)
theorem dJ10_putChar_43 : decode cJ10_putChar 43 = .ok (.bastore, 1) := dk_84 (dk_at dksJ10_putChar_1 19 rfl rfl)
theorem dJ10_putChar_44 : decode cJ10_putChar 44 = .ok (.aload_n 0, 1) := dk_42 (dk_at dksJ10_putChar_1 20 rfl rfl)
theorem dJ10_putChar_45 : decode cJ10_putChar 45 = .ok (.iload_n 1, 1) := dk_27 (dk_at dksJ10_putChar_1 21 rfl rfl)
theorem dJ10_putChar_46 : decode cJ10_putChar 46 = .ok (.iload_n 2, 1) := dk_28 (dk_at dksJ10_putChar_1 22 rfl rfl)
theorem dJ10_putChar_47 : decode cJ10_putChar 47 = .ok (.getstatic 63, 3) := dk_178 0 63 (dk_at dksJ10_putChar_2 0 rfl rfl)
theorem dJ10_putChar_50 : decode cJ10_putChar 50 = .ok (.ishr, 1) := dk_122 (dk_at dksJ10_putChar_2 3 rfl rfl)
theorem dJ10_putChar_51 : decode cJ10_putChar 51 = .ok (.i2b, 1) := dk_145 (dk_at dksJ10_putChar_2 4 rfl rfl)
theorem dJ10_putChar_52 : decode cJ10_putChar 52 = .ok (.bastore, 1) := dk_84 (dk_at dksJ10_putChar_2 5 rfl rfl)
theorem dJ10_putChar_53 : decode cJ10_putChar 53 = .ok (.return_, 1) := dk_177 (dk_at dksJ10_putChar_2 6 rfl rfl)
abbrev cJ10_inflate : ByteArray := prog_41_method_86_code
def yJ10_inflate : MethodName := ⟨RJ10, "inflate", "([BI[BII)V"⟩
def dkwJ10_inflate_1 : List UInt8 := [132, 1, 1, 51, 17, 0, 255, 126, 184, 0, 111, 132, 5, 1, 167, 255, 228, 177]
abbrev dktJ10_inflate_1 : List UInt8 := dkwJ10_inflate_1 ++ []
def dkwJ10_inflate_0 : List UInt8 := [29, 21, 4, 44, 184, 0, 173, 3, 54, 5, 21, 5, 21, 4, 162, 0, 27, 44, 29, 132, 3, 1, 42, 27]
abbrev dktJ10_inflate_0 : List UInt8 := dkwJ10_inflate_0 ++ dktJ10_inflate_1
theorem dksJ10_inflate_0 : cJ10_inflate.data.toList.drop 0 = dktJ10_inflate_0 := by decide +kernel
theorem dksJ10_inflate_1 : cJ10_inflate.data.toList.drop 24 = dktJ10_inflate_1 := dk_seg dksJ10_inflate_0 24 rfl rfl
theorem dJ10_inflate_0 : decode cJ10_inflate 0 = .ok (.iload_n 3, 1) := dk_29 (dk_at dksJ10_inflate_0 0 rfl rfl)
theorem dJ10_inflate_1 : decode cJ10_inflate 1 = .ok (.iload 4, 2) := dk_21 4 (dk_at dksJ10_inflate_0 1 rfl rfl)
theorem dJ10_inflate_3 : decode cJ10_inflate 3 = .ok (.aload_n 2, 1) := dk_44 (dk_at dksJ10_inflate_0 3 rfl rfl)
theorem dJ10_inflate_4 : decode cJ10_inflate 4 = .ok (.invokestatic 173, 3) := dk_184 0 173 (dk_at dksJ10_inflate_0 4 rfl rfl)
theorem dJ10_inflate_7 : decode cJ10_inflate 7 = .ok (.iconst 0, 1) := dk_3 (dk_at dksJ10_inflate_0 7 rfl rfl)
theorem dJ10_inflate_8 : decode cJ10_inflate 8 = .ok (.istore 5, 2) := dk_54 5 (dk_at dksJ10_inflate_0 8 rfl rfl)
theorem dJ10_inflate_10 : decode cJ10_inflate 10 = .ok (.iload 5, 2) := dk_21 5 (dk_at dksJ10_inflate_0 10 rfl rfl)
theorem dJ10_inflate_12 : decode cJ10_inflate 12 = .ok (.iload 4, 2) := dk_21 4 (dk_at dksJ10_inflate_0 12 rfl rfl)
theorem dJ10_inflate_14 : decode cJ10_inflate 14 = .ok (.if_icmp .ge 27, 3) := dk_162 0 27 (dk_at dksJ10_inflate_0 14 rfl rfl)
theorem dJ10_inflate_17 : decode cJ10_inflate 17 = .ok (.aload_n 2, 1) := dk_44 (dk_at dksJ10_inflate_0 17 rfl rfl)
theorem dJ10_inflate_18 : decode cJ10_inflate 18 = .ok (.iload_n 3, 1) := dk_29 (dk_at dksJ10_inflate_0 18 rfl rfl)
theorem dJ10_inflate_19 : decode cJ10_inflate 19 = .ok (.iinc 3 1, 3) := dk_132 3 1 (dk_at dksJ10_inflate_0 19 rfl rfl)
theorem dJ10_inflate_22 : decode cJ10_inflate 22 = .ok (.aload_n 0, 1) := dk_42 (dk_at dksJ10_inflate_0 22 rfl rfl)
theorem dJ10_inflate_23 : decode cJ10_inflate 23 = .ok (.iload_n 1, 1) := dk_27 (dk_at dksJ10_inflate_0 23 rfl rfl)
theorem dJ10_inflate_24 : decode cJ10_inflate 24 = .ok (.iinc 1 1, 3) := dk_132 1 1 (dk_at dksJ10_inflate_1 0 rfl rfl)
theorem dJ10_inflate_27 : decode cJ10_inflate 27 = .ok (.baload, 1) := dk_51 (dk_at dksJ10_inflate_1 3 rfl rfl)
theorem dJ10_inflate_28 : decode cJ10_inflate 28 = .ok (.sipush 255, 3) := dk_17 0 255 (dk_at dksJ10_inflate_1 4 rfl rfl)
theorem dJ10_inflate_31 : decode cJ10_inflate 31 = .ok (.iand, 1) := dk_126 (dk_at dksJ10_inflate_1 7 rfl rfl)
theorem dJ10_inflate_32 : decode cJ10_inflate 32 = .ok (.invokestatic 111, 3) := dk_184 0 111 (dk_at dksJ10_inflate_1 8 rfl rfl)
theorem dJ10_inflate_35 : decode cJ10_inflate 35 = .ok (.iinc 5 1, 3) := dk_132 5 1 (dk_at dksJ10_inflate_1 11 rfl rfl)
theorem dJ10_inflate_38 : decode cJ10_inflate 38 = .ok (.goto (-28), 3) := dk_167 255 228 (dk_at dksJ10_inflate_1 14 rfl rfl)
theorem dJ10_inflate_41 : decode cJ10_inflate 41 = .ok (.return_, 1) := dk_177 (dk_at dksJ10_inflate_1 17 rfl rfl)
abbrev cJ10_checkBoundsOffCount : ByteArray := prog_41_method_94_code
def yJ10_checkBoundsOffCount : MethodName := ⟨RJ10, "checkBoundsOffCount", "(II[B)V"⟩
def dkwJ10_checkBoundsOffCount_0 : List UInt8 := [26, 27, 44, 184, 0, 48, 184, 1, 163, 87, 177]
abbrev dktJ10_checkBoundsOffCount_0 : List UInt8 := dkwJ10_checkBoundsOffCount_0 ++ []
theorem dksJ10_checkBoundsOffCount_0 : cJ10_checkBoundsOffCount.data.toList.drop 0 = dktJ10_checkBoundsOffCount_0 := by decide +kernel
theorem dJ10_checkBoundsOffCount_0 : decode cJ10_checkBoundsOffCount 0 = .ok (.iload_n 0, 1) := dk_26 (dk_at dksJ10_checkBoundsOffCount_0 0 rfl rfl)
theorem dJ10_checkBoundsOffCount_1 : decode cJ10_checkBoundsOffCount 1 = .ok (.iload_n 1, 1) := dk_27 (dk_at dksJ10_checkBoundsOffCount_0 1 rfl rfl)
theorem dJ10_checkBoundsOffCount_2 : decode cJ10_checkBoundsOffCount 2 = .ok (.aload_n 2, 1) := dk_44 (dk_at dksJ10_checkBoundsOffCount_0 2 rfl rfl)
theorem dJ10_checkBoundsOffCount_3 : decode cJ10_checkBoundsOffCount 3 = .ok (.invokestatic 48, 3) := dk_184 0 48 (dk_at dksJ10_checkBoundsOffCount_0 3 rfl rfl)
theorem dJ10_checkBoundsOffCount_6 : decode cJ10_checkBoundsOffCount 6 = .ok (.invokestatic 419, 3) := dk_184 1 163 (dk_at dksJ10_checkBoundsOffCount_0 6 rfl rfl)
theorem dJ10_checkBoundsOffCount_9 : decode cJ10_checkBoundsOffCount 9 = .ok (.pop, 1) := dk_87 (dk_at dksJ10_checkBoundsOffCount_0 9 rfl rfl)
theorem dJ10_checkBoundsOffCount_10 : decode cJ10_checkBoundsOffCount 10 = .ok (.return_, 1) := dk_177 (dk_at dksJ10_checkBoundsOffCount_0 10 rfl rfl)
abbrev cJ10_getChars : ByteArray := prog_41_method_77_code
def yJ10_getChars : MethodName := ⟨RJ10, "getChars", "(III[B)I"⟩
def dkwJ10_getChars_1 : List UInt8 := [159, 0, 11, 187, 0, 52, 89, 183, 0, 66, 191, 21, 4, 172]
abbrev dktJ10_getChars_1 : List UInt8 := dkwJ10_getChars_1 ++ []
def dkwJ10_getChars_0 : List UInt8 := [27, 28, 45, 184, 0, 96, 26, 28, 45, 184, 1, 137, 54, 4, 178, 0, 44, 154, 0, 17, 27, 21, 4]
abbrev dktJ10_getChars_0 : List UInt8 := dkwJ10_getChars_0 ++ dktJ10_getChars_1
theorem dksJ10_getChars_0 : cJ10_getChars.data.toList.drop 0 = dktJ10_getChars_0 := by decide +kernel
theorem dksJ10_getChars_1 : cJ10_getChars.data.toList.drop 23 = dktJ10_getChars_1 := dk_seg dksJ10_getChars_0 23 rfl rfl
theorem dJ10_getChars_0 : decode cJ10_getChars 0 = .ok (.iload_n 1, 1) := dk_27 (dk_at dksJ10_getChars_0 0 rfl rfl)
theorem dJ10_getChars_1 : decode cJ10_getChars 1 = .ok (.iload_n 2, 1) := dk_28 (dk_at dksJ10_getChars_0 1 rfl rfl)
theorem dJ10_getChars_2 : decode cJ10_getChars 2 = .ok (.aload_n 3, 1) := dk_45 (dk_at dksJ10_getChars_0 2 rfl rfl)
theorem dJ10_getChars_3 : decode cJ10_getChars 3 = .ok (.invokestatic 96, 3) := dk_184 0 96 (dk_at dksJ10_getChars_0 3 rfl rfl)
theorem dJ10_getChars_6 : decode cJ10_getChars 6 = .ok (.iload_n 0, 1) := dk_26 (dk_at dksJ10_getChars_0 6 rfl rfl)
theorem dJ10_getChars_7 : decode cJ10_getChars 7 = .ok (.iload_n 2, 1) := dk_28 (dk_at dksJ10_getChars_0 7 rfl rfl)
theorem dJ10_getChars_8 : decode cJ10_getChars 8 = .ok (.aload_n 3, 1) := dk_45 (dk_at dksJ10_getChars_0 8 rfl rfl)
theorem dJ10_getChars_9 : decode cJ10_getChars 9 = .ok (.invokestatic 393, 3) := dk_184 1 137 (dk_at dksJ10_getChars_0 9 rfl rfl)
theorem dJ10_getChars_12 : decode cJ10_getChars 12 = .ok (.istore 4, 2) := dk_54 4 (dk_at dksJ10_getChars_0 12 rfl rfl)
theorem dJ10_getChars_14 : decode cJ10_getChars 14 = .ok (.getstatic 44, 3) := dk_178 0 44 (dk_at dksJ10_getChars_0 14 rfl rfl)
theorem dJ10_getChars_17 : decode cJ10_getChars 17 = .ok (.ifCond .ne 17, 3) := dk_154 0 17 (dk_at dksJ10_getChars_0 17 rfl rfl)
theorem dJ10_getChars_20 : decode cJ10_getChars 20 = .ok (.iload_n 1, 1) := dk_27 (dk_at dksJ10_getChars_0 20 rfl rfl)
theorem dJ10_getChars_21 : decode cJ10_getChars 21 = .ok (.iload 4, 2) := dk_21 4 (dk_at dksJ10_getChars_0 21 rfl rfl)
theorem dJ10_getChars_23 : decode cJ10_getChars 23 = .ok (.if_icmp .eq 11, 3) := dk_159 0 11 (dk_at dksJ10_getChars_1 0 rfl rfl)
theorem dJ10_getChars_26 : decode cJ10_getChars 26 = .ok (.new 52, 3) := dk_187 0 52 (dk_at dksJ10_getChars_1 3 rfl rfl)
theorem dJ10_getChars_29 : decode cJ10_getChars 29 = .ok (.dup, 1) := dk_89 (dk_at dksJ10_getChars_1 6 rfl rfl)
theorem dJ10_getChars_30 : decode cJ10_getChars 30 = .ok (.invokespecial 66, 3) := dk_183 0 66 (dk_at dksJ10_getChars_1 7 rfl rfl)
theorem dJ10_getChars_33 : decode cJ10_getChars 33 = .ok (.athrow, 1) := dk_191 (dk_at dksJ10_getChars_1 10 rfl rfl)
theorem dJ10_getChars_34 : decode cJ10_getChars 34 = .ok (.iload 4, 2) := dk_21 4 (dk_at dksJ10_getChars_1 11 rfl rfl)
theorem dJ10_getChars_36 : decode cJ10_getChars 36 = .ok (.ireturn, 1) := dk_172 (dk_at dksJ10_getChars_1 13 rfl rfl)
abbrev cJ10_getChars_2 : ByteArray := prog_41_method_89_code
def yJ10_getChars_2 : MethodName := ⟨RJ10, "getChars", "(II[B)I"⟩
def dkwJ10_getChars_2_5 : List UInt8 := [132, 5, 255, 21, 5, 16, 45, 184, 0, 111, 21, 5, 172]
abbrev dktJ10_getChars_2_5 : List UInt8 := dkwJ10_getChars_2_5 ++ []
def dkwJ10_getChars_2_4 : List UInt8 := [162, 0, 18, 44, 132, 5, 255, 21, 5, 178, 1, 151, 26, 116, 51, 184, 0, 111, 21, 6, 153, 0, 14, 44]
abbrev dktJ10_getChars_2_4 : List UInt8 := dkwJ10_getChars_2_4 ++ dktJ10_getChars_2_5
def dkwJ10_getChars_2_3 : List UInt8 := [184, 0, 111, 167, 255, 205, 44, 132, 5, 255, 21, 5, 178, 1, 147, 26, 116, 51, 184, 0, 111, 26, 16, 247]
abbrev dktJ10_getChars_2_3 : List UInt8 := dkwJ10_getChars_2_3 ++ dktJ10_getChars_2_4
def dkwJ10_getChars_2_2 : List UInt8 := [21, 5, 178, 1, 147, 21, 4, 51, 184, 0, 111, 44, 132, 5, 255, 21, 5, 178, 1, 151, 21, 4, 51]
abbrev dktJ10_getChars_2_2 : List UInt8 := dkwJ10_getChars_2_2 ++ dktJ10_getChars_2_3
def dkwJ10_getChars_2_1 : List UInt8 := [16, 156, 163, 0, 51, 26, 16, 100, 108, 62, 29, 16, 100, 104, 26, 100, 54, 4, 29, 59, 44, 132, 5, 255]
abbrev dktJ10_getChars_2_1 : List UInt8 := dkwJ10_getChars_2_1 ++ dktJ10_getChars_2_2
def dkwJ10_getChars_2_0 : List UInt8 := [27, 54, 5, 26, 156, 0, 7, 4, 167, 0, 4, 3, 54, 6, 21, 6, 154, 0, 6, 26, 116, 59, 26]
abbrev dktJ10_getChars_2_0 : List UInt8 := dkwJ10_getChars_2_0 ++ dktJ10_getChars_2_1
theorem dksJ10_getChars_2_0 : cJ10_getChars_2.data.toList.drop 0 = dktJ10_getChars_2_0 := by decide +kernel
theorem dksJ10_getChars_2_1 : cJ10_getChars_2.data.toList.drop 23 = dktJ10_getChars_2_1 := dk_seg dksJ10_getChars_2_0 23 rfl rfl
theorem dksJ10_getChars_2_2 : cJ10_getChars_2.data.toList.drop 47 = dktJ10_getChars_2_2 := dk_seg dksJ10_getChars_2_1 24 rfl rfl
theorem dksJ10_getChars_2_3 : cJ10_getChars_2.data.toList.drop 70 = dktJ10_getChars_2_3 := dk_seg dksJ10_getChars_2_2 23 rfl rfl
theorem dksJ10_getChars_2_4 : cJ10_getChars_2.data.toList.drop 94 = dktJ10_getChars_2_4 := dk_seg dksJ10_getChars_2_3 24 rfl rfl
theorem dksJ10_getChars_2_5 : cJ10_getChars_2.data.toList.drop 118 = dktJ10_getChars_2_5 := dk_seg dksJ10_getChars_2_4 24 rfl rfl
theorem dJ10_getChars_2_0 : decode cJ10_getChars_2 0 = .ok (.iload_n 1, 1) := dk_27 (dk_at dksJ10_getChars_2_0 0 rfl rfl)
theorem dJ10_getChars_2_1 : decode cJ10_getChars_2 1 = .ok (.istore 5, 2) := dk_54 5 (dk_at dksJ10_getChars_2_0 1 rfl rfl)
theorem dJ10_getChars_2_3 : decode cJ10_getChars_2 3 = .ok (.iload_n 0, 1) := dk_26 (dk_at dksJ10_getChars_2_0 3 rfl rfl)
theorem dJ10_getChars_2_4 : decode cJ10_getChars_2 4 = .ok (.ifCond .ge 7, 3) := dk_156 0 7 (dk_at dksJ10_getChars_2_0 4 rfl rfl)
theorem dJ10_getChars_2_7 : decode cJ10_getChars_2 7 = .ok (.iconst 1, 1) := dk_4 (dk_at dksJ10_getChars_2_0 7 rfl rfl)
theorem dJ10_getChars_2_8 : decode cJ10_getChars_2 8 = .ok (.goto 4, 3) := dk_167 0 4 (dk_at dksJ10_getChars_2_0 8 rfl rfl)
theorem dJ10_getChars_2_11 : decode cJ10_getChars_2 11 = .ok (.iconst 0, 1) := dk_3 (dk_at dksJ10_getChars_2_0 11 rfl rfl)
theorem dJ10_getChars_2_12 : decode cJ10_getChars_2 12 = .ok (.istore 6, 2) := dk_54 6 (dk_at dksJ10_getChars_2_0 12 rfl rfl)
theorem dJ10_getChars_2_14 : decode cJ10_getChars_2 14 = .ok (.iload 6, 2) := dk_21 6 (dk_at dksJ10_getChars_2_0 14 rfl rfl)
theorem dJ10_getChars_2_16 : decode cJ10_getChars_2 16 = .ok (.ifCond .ne 6, 3) := dk_154 0 6 (dk_at dksJ10_getChars_2_0 16 rfl rfl)
theorem dJ10_getChars_2_19 : decode cJ10_getChars_2 19 = .ok (.iload_n 0, 1) := dk_26 (dk_at dksJ10_getChars_2_0 19 rfl rfl)
theorem dJ10_getChars_2_20 : decode cJ10_getChars_2 20 = .ok (.ineg, 1) := dk_116 (dk_at dksJ10_getChars_2_0 20 rfl rfl)
theorem dJ10_getChars_2_21 : decode cJ10_getChars_2 21 = .ok (.istore_n 0, 1) := dk_59 (dk_at dksJ10_getChars_2_0 21 rfl rfl)
theorem dJ10_getChars_2_22 : decode cJ10_getChars_2 22 = .ok (.iload_n 0, 1) := dk_26 (dk_at dksJ10_getChars_2_0 22 rfl rfl)
theorem dJ10_getChars_2_23 : decode cJ10_getChars_2 23 = .ok (.bipush (-100), 2) := dk_16 156 (dk_at dksJ10_getChars_2_1 0 rfl rfl)
theorem dJ10_getChars_2_25 : decode cJ10_getChars_2 25 = .ok (.if_icmp .gt 51, 3) := dk_163 0 51 (dk_at dksJ10_getChars_2_1 2 rfl rfl)
theorem dJ10_getChars_2_28 : decode cJ10_getChars_2 28 = .ok (.iload_n 0, 1) := dk_26 (dk_at dksJ10_getChars_2_1 5 rfl rfl)
theorem dJ10_getChars_2_29 : decode cJ10_getChars_2 29 = .ok (.bipush 100, 2) := dk_16 100 (dk_at dksJ10_getChars_2_1 6 rfl rfl)
theorem dJ10_getChars_2_31 : decode cJ10_getChars_2 31 = .ok (.idiv, 1) := dk_108 (dk_at dksJ10_getChars_2_1 8 rfl rfl)
theorem dJ10_getChars_2_32 : decode cJ10_getChars_2 32 = .ok (.istore_n 3, 1) := dk_62 (dk_at dksJ10_getChars_2_1 9 rfl rfl)
theorem dJ10_getChars_2_33 : decode cJ10_getChars_2 33 = .ok (.iload_n 3, 1) := dk_29 (dk_at dksJ10_getChars_2_1 10 rfl rfl)
theorem dJ10_getChars_2_34 : decode cJ10_getChars_2 34 = .ok (.bipush 100, 2) := dk_16 100 (dk_at dksJ10_getChars_2_1 11 rfl rfl)
theorem dJ10_getChars_2_36 : decode cJ10_getChars_2 36 = .ok (.imul, 1) := dk_104 (dk_at dksJ10_getChars_2_1 13 rfl rfl)
theorem dJ10_getChars_2_37 : decode cJ10_getChars_2 37 = .ok (.iload_n 0, 1) := dk_26 (dk_at dksJ10_getChars_2_1 14 rfl rfl)
theorem dJ10_getChars_2_38 : decode cJ10_getChars_2 38 = .ok (.isub, 1) := dk_100 (dk_at dksJ10_getChars_2_1 15 rfl rfl)
theorem dJ10_getChars_2_39 : decode cJ10_getChars_2 39 = .ok (.istore 4, 2) := dk_54 4 (dk_at dksJ10_getChars_2_1 16 rfl rfl)
theorem dJ10_getChars_2_41 : decode cJ10_getChars_2 41 = .ok (.iload_n 3, 1) := dk_29 (dk_at dksJ10_getChars_2_1 18 rfl rfl)
theorem dJ10_getChars_2_42 : decode cJ10_getChars_2 42 = .ok (.istore_n 0, 1) := dk_59 (dk_at dksJ10_getChars_2_1 19 rfl rfl)
theorem dJ10_getChars_2_43 : decode cJ10_getChars_2 43 = .ok (.aload_n 2, 1) := dk_44 (dk_at dksJ10_getChars_2_1 20 rfl rfl)
theorem dJ10_getChars_2_44 : decode cJ10_getChars_2 44 = .ok (.iinc 5 (-1), 3) := dk_132 5 255 (dk_at dksJ10_getChars_2_1 21 rfl rfl)
theorem dJ10_getChars_2_47 : decode cJ10_getChars_2 47 = .ok (.iload 5, 2) := dk_21 5 (dk_at dksJ10_getChars_2_2 0 rfl rfl)
theorem dJ10_getChars_2_49 : decode cJ10_getChars_2 49 = .ok (.getstatic 403, 3) := dk_178 1 147 (dk_at dksJ10_getChars_2_2 2 rfl rfl)
theorem dJ10_getChars_2_52 : decode cJ10_getChars_2 52 = .ok (.iload 4, 2) := dk_21 4 (dk_at dksJ10_getChars_2_2 5 rfl rfl)
theorem dJ10_getChars_2_54 : decode cJ10_getChars_2 54 = .ok (.baload, 1) := dk_51 (dk_at dksJ10_getChars_2_2 7 rfl rfl)
theorem dJ10_getChars_2_55 : decode cJ10_getChars_2 55 = .ok (.invokestatic 111, 3) := dk_184 0 111 (dk_at dksJ10_getChars_2_2 8 rfl rfl)
theorem dJ10_getChars_2_58 : decode cJ10_getChars_2 58 = .ok (.aload_n 2, 1) := dk_44 (dk_at dksJ10_getChars_2_2 11 rfl rfl)
theorem dJ10_getChars_2_59 : decode cJ10_getChars_2 59 = .ok (.iinc 5 (-1), 3) := dk_132 5 255 (dk_at dksJ10_getChars_2_2 12 rfl rfl)
theorem dJ10_getChars_2_62 : decode cJ10_getChars_2 62 = .ok (.iload 5, 2) := dk_21 5 (dk_at dksJ10_getChars_2_2 15 rfl rfl)
theorem dJ10_getChars_2_64 : decode cJ10_getChars_2 64 = .ok (.getstatic 407, 3) := dk_178 1 151 (dk_at dksJ10_getChars_2_2 17 rfl rfl)
theorem dJ10_getChars_2_67 : decode cJ10_getChars_2 67 = .ok (.iload 4, 2) := dk_21 4 (dk_at dksJ10_getChars_2_2 20 rfl rfl)
theorem dJ10_getChars_2_69 : decode cJ10_getChars_2 69 = .ok (.baload, 1) := dk_51 (dk_at dksJ10_getChars_2_2 22 rfl rfl)
theorem dJ10_getChars_2_70 : decode cJ10_getChars_2 70 = .ok (.invokestatic 111, 3) := dk_184 0 111 (dk_at dksJ10_getChars_2_3 0 rfl rfl)
theorem dJ10_getChars_2_73 : decode cJ10_getChars_2 73 = .ok (.goto (-51), 3) := dk_167 255 205 (dk_at dksJ10_getChars_2_3 3 rfl rfl)
theorem dJ10_getChars_2_76 : decode cJ10_getChars_2 76 = .ok (.aload_n 2, 1) := dk_44 (dk_at dksJ10_getChars_2_3 6 rfl rfl)
theorem dJ10_getChars_2_77 : decode cJ10_getChars_2 77 = .ok (.iinc 5 (-1), 3) := dk_132 5 255 (dk_at dksJ10_getChars_2_3 7 rfl rfl)
theorem dJ10_getChars_2_80 : decode cJ10_getChars_2 80 = .ok (.iload 5, 2) := dk_21 5 (dk_at dksJ10_getChars_2_3 10 rfl rfl)
theorem dJ10_getChars_2_82 : decode cJ10_getChars_2 82 = .ok (.getstatic 403, 3) := dk_178 1 147 (dk_at dksJ10_getChars_2_3 12 rfl rfl)
theorem dJ10_getChars_2_85 : decode cJ10_getChars_2 85 = .ok (.iload_n 0, 1) := dk_26 (dk_at dksJ10_getChars_2_3 15 rfl rfl)
theorem dJ10_getChars_2_86 : decode cJ10_getChars_2 86 = .ok (.ineg, 1) := dk_116 (dk_at dksJ10_getChars_2_3 16 rfl rfl)
theorem dJ10_getChars_2_87 : decode cJ10_getChars_2 87 = .ok (.baload, 1) := dk_51 (dk_at dksJ10_getChars_2_3 17 rfl rfl)
theorem dJ10_getChars_2_88 : decode cJ10_getChars_2 88 = .ok (.invokestatic 111, 3) := dk_184 0 111 (dk_at dksJ10_getChars_2_3 18 rfl rfl)
theorem dJ10_getChars_2_91 : decode cJ10_getChars_2 91 = .ok (.iload_n 0, 1) := dk_26 (dk_at dksJ10_getChars_2_3 21 rfl rfl)
theorem dJ10_getChars_2_92 : decode cJ10_getChars_2 92 = .ok (.bipush (-9), 2) := dk_16 247 (dk_at dksJ10_getChars_2_3 22 rfl rfl)
theorem dJ10_getChars_2_94 : decode cJ10_getChars_2 94 = .ok (.if_icmp .ge 18, 3) := dk_162 0 18 (dk_at dksJ10_getChars_2_4 0 rfl rfl)
theorem dJ10_getChars_2_97 : decode cJ10_getChars_2 97 = .ok (.aload_n 2, 1) := dk_44 (dk_at dksJ10_getChars_2_4 3 rfl rfl)
theorem dJ10_getChars_2_98 : decode cJ10_getChars_2 98 = .ok (.iinc 5 (-1), 3) := dk_132 5 255 (dk_at dksJ10_getChars_2_4 4 rfl rfl)
theorem dJ10_getChars_2_101 : decode cJ10_getChars_2 101 = .ok (.iload 5, 2) := dk_21 5 (dk_at dksJ10_getChars_2_4 7 rfl rfl)
theorem dJ10_getChars_2_103 : decode cJ10_getChars_2 103 = .ok (.getstatic 407, 3) := dk_178 1 151 (dk_at dksJ10_getChars_2_4 9 rfl rfl)
theorem dJ10_getChars_2_106 : decode cJ10_getChars_2 106 = .ok (.iload_n 0, 1) := dk_26 (dk_at dksJ10_getChars_2_4 12 rfl rfl)
theorem dJ10_getChars_2_107 : decode cJ10_getChars_2 107 = .ok (.ineg, 1) := dk_116 (dk_at dksJ10_getChars_2_4 13 rfl rfl)
theorem dJ10_getChars_2_108 : decode cJ10_getChars_2 108 = .ok (.baload, 1) := dk_51 (dk_at dksJ10_getChars_2_4 14 rfl rfl)
theorem dJ10_getChars_2_109 : decode cJ10_getChars_2 109 = .ok (.invokestatic 111, 3) := dk_184 0 111 (dk_at dksJ10_getChars_2_4 15 rfl rfl)
theorem dJ10_getChars_2_112 : decode cJ10_getChars_2 112 = .ok (.iload 6, 2) := dk_21 6 (dk_at dksJ10_getChars_2_4 18 rfl rfl)
theorem dJ10_getChars_2_114 : decode cJ10_getChars_2 114 = .ok (.ifCond .eq 14, 3) := dk_153 0 14 (dk_at dksJ10_getChars_2_4 20 rfl rfl)
theorem dJ10_getChars_2_117 : decode cJ10_getChars_2 117 = .ok (.aload_n 2, 1) := dk_44 (dk_at dksJ10_getChars_2_4 23 rfl rfl)
theorem dJ10_getChars_2_118 : decode cJ10_getChars_2 118 = .ok (.iinc 5 (-1), 3) := dk_132 5 255 (dk_at dksJ10_getChars_2_5 0 rfl rfl)
theorem dJ10_getChars_2_121 : decode cJ10_getChars_2 121 = .ok (.iload 5, 2) := dk_21 5 (dk_at dksJ10_getChars_2_5 3 rfl rfl)
theorem dJ10_getChars_2_123 : decode cJ10_getChars_2 123 = .ok (.bipush 45, 2) := dk_16 45 (dk_at dksJ10_getChars_2_5 5 rfl rfl)
theorem dJ10_getChars_2_125 : decode cJ10_getChars_2 125 = .ok (.invokestatic 111, 3) := dk_184 0 111 (dk_at dksJ10_getChars_2_5 7 rfl rfl)
theorem dJ10_getChars_2_128 : decode cJ10_getChars_2 128 = .ok (.iload 5, 2) := dk_21 5 (dk_at dksJ10_getChars_2_5 10 rfl rfl)
theorem dJ10_getChars_2_130 : decode cJ10_getChars_2 130 = .ok (.ireturn, 1) := dk_172 (dk_at dksJ10_getChars_2_5 12 rfl rfl)
abbrev cJ10_compress : ByteArray := prog_41_method_17_code
def yJ10_compress : MethodName := ⟨RJ10, "compress", "([BII)[B"⟩
def dkwJ10_compress_2 : List UInt8 := [25, 5, 3, 45, 3, 28, 184, 0, 123, 28, 159, 0, 6, 25, 5, 176, 45, 176]
abbrev dktJ10_compress_2 : List UInt8 := dkwJ10_compress_2 ++ []
def dkwJ10_compress_1 : List UInt8 := [27, 28, 96, 184, 0, 11, 184, 0, 126, 58, 5, 25, 5, 21, 4, 184, 0, 71, 17, 0, 255, 163, 0, 16]
abbrev dktJ10_compress_1 : List UInt8 := dkwJ10_compress_1 ++ dktJ10_compress_2
def dkwJ10_compress_0 : List UInt8 := [28, 188, 8, 78, 42, 27, 45, 3, 28, 184, 0, 123, 54, 4, 21, 4, 28, 159, 0, 47, 42, 27, 4, 120]
abbrev dktJ10_compress_0 : List UInt8 := dkwJ10_compress_0 ++ dktJ10_compress_1
theorem dksJ10_compress_0 : cJ10_compress.data.toList.drop 0 = dktJ10_compress_0 := by decide +kernel
theorem dksJ10_compress_1 : cJ10_compress.data.toList.drop 24 = dktJ10_compress_1 := dk_seg dksJ10_compress_0 24 rfl rfl
theorem dksJ10_compress_2 : cJ10_compress.data.toList.drop 48 = dktJ10_compress_2 := dk_seg dksJ10_compress_1 24 rfl rfl
theorem dJ10_compress_0 : decode cJ10_compress 0 = .ok (.iload_n 2, 1) := dk_28 (dk_at dksJ10_compress_0 0 rfl rfl)
theorem dJ10_compress_1 : decode cJ10_compress 1 = .ok (.newarray .byte, 2) := dk_188_8 (dk_at dksJ10_compress_0 1 rfl rfl)
theorem dJ10_compress_3 : decode cJ10_compress 3 = .ok (.astore_n 3, 1) := dk_78 (dk_at dksJ10_compress_0 3 rfl rfl)
theorem dJ10_compress_4 : decode cJ10_compress 4 = .ok (.aload_n 0, 1) := dk_42 (dk_at dksJ10_compress_0 4 rfl rfl)
theorem dJ10_compress_5 : decode cJ10_compress 5 = .ok (.iload_n 1, 1) := dk_27 (dk_at dksJ10_compress_0 5 rfl rfl)
theorem dJ10_compress_6 : decode cJ10_compress 6 = .ok (.aload_n 3, 1) := dk_45 (dk_at dksJ10_compress_0 6 rfl rfl)
theorem dJ10_compress_7 : decode cJ10_compress 7 = .ok (.iconst 0, 1) := dk_3 (dk_at dksJ10_compress_0 7 rfl rfl)
theorem dJ10_compress_8 : decode cJ10_compress 8 = .ok (.iload_n 2, 1) := dk_28 (dk_at dksJ10_compress_0 8 rfl rfl)
theorem dJ10_compress_9 : decode cJ10_compress 9 = .ok (.invokestatic 123, 3) := dk_184 0 123 (dk_at dksJ10_compress_0 9 rfl rfl)
theorem dJ10_compress_12 : decode cJ10_compress 12 = .ok (.istore 4, 2) := dk_54 4 (dk_at dksJ10_compress_0 12 rfl rfl)
theorem dJ10_compress_14 : decode cJ10_compress 14 = .ok (.iload 4, 2) := dk_21 4 (dk_at dksJ10_compress_0 14 rfl rfl)
theorem dJ10_compress_16 : decode cJ10_compress 16 = .ok (.iload_n 2, 1) := dk_28 (dk_at dksJ10_compress_0 16 rfl rfl)
theorem dJ10_compress_17 : decode cJ10_compress 17 = .ok (.if_icmp .eq 47, 3) := dk_159 0 47 (dk_at dksJ10_compress_0 17 rfl rfl)
theorem dJ10_compress_20 : decode cJ10_compress 20 = .ok (.aload_n 0, 1) := dk_42 (dk_at dksJ10_compress_0 20 rfl rfl)
theorem dJ10_compress_21 : decode cJ10_compress 21 = .ok (.iload_n 1, 1) := dk_27 (dk_at dksJ10_compress_0 21 rfl rfl)
theorem dJ10_compress_22 : decode cJ10_compress 22 = .ok (.iconst 1, 1) := dk_4 (dk_at dksJ10_compress_0 22 rfl rfl)
theorem dJ10_compress_23 : decode cJ10_compress 23 = .ok (.ishl, 1) := dk_120 (dk_at dksJ10_compress_0 23 rfl rfl)
theorem dJ10_compress_24 : decode cJ10_compress 24 = .ok (.iload_n 1, 1) := dk_27 (dk_at dksJ10_compress_1 0 rfl rfl)
theorem dJ10_compress_25 : decode cJ10_compress 25 = .ok (.iload_n 2, 1) := dk_28 (dk_at dksJ10_compress_1 1 rfl rfl)
theorem dJ10_compress_26 : decode cJ10_compress 26 = .ok (.iadd, 1) := dk_96 (dk_at dksJ10_compress_1 2 rfl rfl)
theorem dJ10_compress_27 : decode cJ10_compress 27 = .ok (.invokestatic 11, 3) := dk_184 0 11 (dk_at dksJ10_compress_1 3 rfl rfl)
theorem dJ10_compress_30 : decode cJ10_compress 30 = .ok (.invokestatic 126, 3) := dk_184 0 126 (dk_at dksJ10_compress_1 6 rfl rfl)
theorem dJ10_compress_33 : decode cJ10_compress 33 = .ok (.astore 5, 2) := dk_58 5 (dk_at dksJ10_compress_1 9 rfl rfl)
theorem dJ10_compress_35 : decode cJ10_compress 35 = .ok (.aload 5, 2) := dk_25 5 (dk_at dksJ10_compress_1 11 rfl rfl)
theorem dJ10_compress_37 : decode cJ10_compress 37 = .ok (.iload 4, 2) := dk_21 4 (dk_at dksJ10_compress_1 13 rfl rfl)
theorem dJ10_compress_39 : decode cJ10_compress 39 = .ok (.invokestatic 71, 3) := dk_184 0 71 (dk_at dksJ10_compress_1 15 rfl rfl)
theorem dJ10_compress_42 : decode cJ10_compress 42 = .ok (.sipush 255, 3) := dk_17 0 255 (dk_at dksJ10_compress_1 18 rfl rfl)
theorem dJ10_compress_45 : decode cJ10_compress 45 = .ok (.if_icmp .gt 16, 3) := dk_163 0 16 (dk_at dksJ10_compress_1 21 rfl rfl)
theorem dJ10_compress_48 : decode cJ10_compress 48 = .ok (.aload 5, 2) := dk_25 5 (dk_at dksJ10_compress_2 0 rfl rfl)
theorem dJ10_compress_50 : decode cJ10_compress 50 = .ok (.iconst 0, 1) := dk_3 (dk_at dksJ10_compress_2 2 rfl rfl)
theorem dJ10_compress_51 : decode cJ10_compress 51 = .ok (.aload_n 3, 1) := dk_45 (dk_at dksJ10_compress_2 3 rfl rfl)
theorem dJ10_compress_52 : decode cJ10_compress 52 = .ok (.iconst 0, 1) := dk_3 (dk_at dksJ10_compress_2 4 rfl rfl)
theorem dJ10_compress_53 : decode cJ10_compress 53 = .ok (.iload_n 2, 1) := dk_28 (dk_at dksJ10_compress_2 5 rfl rfl)
theorem dJ10_compress_54 : decode cJ10_compress 54 = .ok (.invokestatic 123, 3) := dk_184 0 123 (dk_at dksJ10_compress_2 6 rfl rfl)
theorem dJ10_compress_57 : decode cJ10_compress 57 = .ok (.iload_n 2, 1) := dk_28 (dk_at dksJ10_compress_2 9 rfl rfl)
theorem dJ10_compress_58 : decode cJ10_compress 58 = .ok (.if_icmp .eq 6, 3) := dk_159 0 6 (dk_at dksJ10_compress_2 10 rfl rfl)
theorem dJ10_compress_61 : decode cJ10_compress 61 = .ok (.aload 5, 2) := dk_25 5 (dk_at dksJ10_compress_2 13 rfl rfl)
theorem dJ10_compress_63 : decode cJ10_compress 63 = .ok (.areturn, 1) := dk_176 (dk_at dksJ10_compress_2 15 rfl rfl)
theorem dJ10_compress_64 : decode cJ10_compress 64 = .ok (.aload_n 3, 1) := dk_45 (dk_at dksJ10_compress_2 16 rfl rfl)
theorem dJ10_compress_65 : decode cJ10_compress 65 = .ok (.areturn, 1) := dk_176 (dk_at dksJ10_compress_2 17 rfl rfl)
abbrev cJ10_compress_2 : ByteArray := prog_41_method_22_code
def yJ10_compress_2 : MethodName := ⟨RJ10, "compress", "([BI[BII)I"⟩
def dkwJ10_compress_2_2 : List UInt8 := [132, 5, 1, 167, 255, 216, 21, 4, 172]
abbrev dktJ10_compress_2_2 : List UInt8 := dkwJ10_compress_2_2 ++ []
def dkwJ10_compress_2_1 : List UInt8 := [21, 6, 17, 0, 255, 164, 0, 6, 21, 5, 172, 44, 29, 21, 6, 145, 84, 132, 1, 1, 132, 3, 1]
abbrev dktJ10_compress_2_1 : List UInt8 := dkwJ10_compress_2_1 ++ dktJ10_compress_2_2
def dkwJ10_compress_2_0 : List UInt8 := [27, 21, 4, 42, 184, 0, 173, 3, 54, 5, 21, 5, 21, 4, 162, 0, 39, 42, 27, 184, 0, 71, 54, 6]
abbrev dktJ10_compress_2_0 : List UInt8 := dkwJ10_compress_2_0 ++ dktJ10_compress_2_1
theorem dksJ10_compress_2_0 : cJ10_compress_2.data.toList.drop 0 = dktJ10_compress_2_0 := by decide +kernel
theorem dksJ10_compress_2_1 : cJ10_compress_2.data.toList.drop 24 = dktJ10_compress_2_1 := dk_seg dksJ10_compress_2_0 24 rfl rfl
theorem dksJ10_compress_2_2 : cJ10_compress_2.data.toList.drop 47 = dktJ10_compress_2_2 := dk_seg dksJ10_compress_2_1 23 rfl rfl
theorem dJ10_compress_2_0 : decode cJ10_compress_2 0 = .ok (.iload_n 1, 1) := dk_27 (dk_at dksJ10_compress_2_0 0 rfl rfl)
theorem dJ10_compress_2_1 : decode cJ10_compress_2 1 = .ok (.iload 4, 2) := dk_21 4 (dk_at dksJ10_compress_2_0 1 rfl rfl)
theorem dJ10_compress_2_3 : decode cJ10_compress_2 3 = .ok (.aload_n 0, 1) := dk_42 (dk_at dksJ10_compress_2_0 3 rfl rfl)
theorem dJ10_compress_2_4 : decode cJ10_compress_2 4 = .ok (.invokestatic 173, 3) := dk_184 0 173 (dk_at dksJ10_compress_2_0 4 rfl rfl)
theorem dJ10_compress_2_7 : decode cJ10_compress_2 7 = .ok (.iconst 0, 1) := dk_3 (dk_at dksJ10_compress_2_0 7 rfl rfl)
theorem dJ10_compress_2_8 : decode cJ10_compress_2 8 = .ok (.istore 5, 2) := dk_54 5 (dk_at dksJ10_compress_2_0 8 rfl rfl)
theorem dJ10_compress_2_10 : decode cJ10_compress_2 10 = .ok (.iload 5, 2) := dk_21 5 (dk_at dksJ10_compress_2_0 10 rfl rfl)
theorem dJ10_compress_2_12 : decode cJ10_compress_2 12 = .ok (.iload 4, 2) := dk_21 4 (dk_at dksJ10_compress_2_0 12 rfl rfl)
theorem dJ10_compress_2_14 : decode cJ10_compress_2 14 = .ok (.if_icmp .ge 39, 3) := dk_162 0 39 (dk_at dksJ10_compress_2_0 14 rfl rfl)
theorem dJ10_compress_2_17 : decode cJ10_compress_2 17 = .ok (.aload_n 0, 1) := dk_42 (dk_at dksJ10_compress_2_0 17 rfl rfl)
theorem dJ10_compress_2_18 : decode cJ10_compress_2 18 = .ok (.iload_n 1, 1) := dk_27 (dk_at dksJ10_compress_2_0 18 rfl rfl)
theorem dJ10_compress_2_19 : decode cJ10_compress_2 19 = .ok (.invokestatic 71, 3) := dk_184 0 71 (dk_at dksJ10_compress_2_0 19 rfl rfl)
theorem dJ10_compress_2_22 : decode cJ10_compress_2 22 = .ok (.istore 6, 2) := dk_54 6 (dk_at dksJ10_compress_2_0 22 rfl rfl)
theorem dJ10_compress_2_24 : decode cJ10_compress_2 24 = .ok (.iload 6, 2) := dk_21 6 (dk_at dksJ10_compress_2_1 0 rfl rfl)
theorem dJ10_compress_2_26 : decode cJ10_compress_2 26 = .ok (.sipush 255, 3) := dk_17 0 255 (dk_at dksJ10_compress_2_1 2 rfl rfl)
theorem dJ10_compress_2_29 : decode cJ10_compress_2 29 = .ok (.if_icmp .le 6, 3) := dk_164 0 6 (dk_at dksJ10_compress_2_1 5 rfl rfl)
theorem dJ10_compress_2_32 : decode cJ10_compress_2 32 = .ok (.iload 5, 2) := dk_21 5 (dk_at dksJ10_compress_2_1 8 rfl rfl)
theorem dJ10_compress_2_34 : decode cJ10_compress_2 34 = .ok (.ireturn, 1) := dk_172 (dk_at dksJ10_compress_2_1 10 rfl rfl)
theorem dJ10_compress_2_35 : decode cJ10_compress_2 35 = .ok (.aload_n 2, 1) := dk_44 (dk_at dksJ10_compress_2_1 11 rfl rfl)
theorem dJ10_compress_2_36 : decode cJ10_compress_2 36 = .ok (.iload_n 3, 1) := dk_29 (dk_at dksJ10_compress_2_1 12 rfl rfl)
theorem dJ10_compress_2_37 : decode cJ10_compress_2 37 = .ok (.iload 6, 2) := dk_21 6 (dk_at dksJ10_compress_2_1 13 rfl rfl)
theorem dJ10_compress_2_39 : decode cJ10_compress_2 39 = .ok (.i2b, 1) := dk_145 (dk_at dksJ10_compress_2_1 15 rfl rfl)
theorem dJ10_compress_2_40 : decode cJ10_compress_2 40 = .ok (.bastore, 1) := dk_84 (dk_at dksJ10_compress_2_1 16 rfl rfl)
theorem dJ10_compress_2_41 : decode cJ10_compress_2 41 = .ok (.iinc 1 1, 3) := dk_132 1 1 (dk_at dksJ10_compress_2_1 17 rfl rfl)
theorem dJ10_compress_2_44 : decode cJ10_compress_2 44 = .ok (.iinc 3 1, 3) := dk_132 3 1 (dk_at dksJ10_compress_2_1 20 rfl rfl)
theorem dJ10_compress_2_47 : decode cJ10_compress_2 47 = .ok (.iinc 5 1, 3) := dk_132 5 1 (dk_at dksJ10_compress_2_2 0 rfl rfl)
theorem dJ10_compress_2_50 : decode cJ10_compress_2 50 = .ok (.goto (-40), 3) := dk_167 255 216 (dk_at dksJ10_compress_2_2 3 rfl rfl)
theorem dJ10_compress_2_53 : decode cJ10_compress_2 53 = .ok (.iload 4, 2) := dk_21 4 (dk_at dksJ10_compress_2_2 6 rfl rfl)
theorem dJ10_compress_2_55 : decode cJ10_compress_2 55 = .ok (.ireturn, 1) := dk_172 (dk_at dksJ10_compress_2_2 8 rfl rfl)
abbrev cJ10_getChar : ByteArray := prog_41_method_5_code
def yJ10_getChar : MethodName := ⟨RJ10, "getChar", "([BI)C"⟩
def dkwJ10_getChar_2 : List UInt8 := [51, 17, 0, 255, 126, 178, 0, 63, 120, 128, 146, 172]
abbrev dktJ10_getChar_2 : List UInt8 := dkwJ10_getChar_2 ++ []
def dkwJ10_getChar_1 : List UInt8 := [183, 0, 56, 191, 27, 4, 120, 60, 42, 27, 132, 1, 1, 51, 17, 0, 255, 126, 178, 0, 59, 120, 42, 27]
abbrev dktJ10_getChar_1 : List UInt8 := dkwJ10_getChar_1 ++ dktJ10_getChar_2
def dkwJ10_getChar_0 : List UInt8 := [178, 0, 44, 154, 0, 25, 27, 155, 0, 11, 27, 42, 184, 0, 48, 161, 0, 13, 187, 0, 52, 89, 18, 54]
abbrev dktJ10_getChar_0 : List UInt8 := dkwJ10_getChar_0 ++ dktJ10_getChar_1
theorem dksJ10_getChar_0 : cJ10_getChar.data.toList.drop 0 = dktJ10_getChar_0 := by decide +kernel
theorem dksJ10_getChar_1 : cJ10_getChar.data.toList.drop 24 = dktJ10_getChar_1 := dk_seg dksJ10_getChar_0 24 rfl rfl
theorem dksJ10_getChar_2 : cJ10_getChar.data.toList.drop 48 = dktJ10_getChar_2 := dk_seg dksJ10_getChar_1 24 rfl rfl
theorem dJ10_getChar_0 : decode cJ10_getChar 0 = .ok (.getstatic 44, 3) := dk_178 0 44 (dk_at dksJ10_getChar_0 0 rfl rfl)
theorem dJ10_getChar_3 : decode cJ10_getChar 3 = .ok (.ifCond .ne 25, 3) := dk_154 0 25 (dk_at dksJ10_getChar_0 3 rfl rfl)
theorem dJ10_getChar_6 : decode cJ10_getChar 6 = .ok (.iload_n 1, 1) := dk_27 (dk_at dksJ10_getChar_0 6 rfl rfl)
theorem dJ10_getChar_7 : decode cJ10_getChar 7 = .ok (.ifCond .lt 11, 3) := dk_155 0 11 (dk_at dksJ10_getChar_0 7 rfl rfl)
theorem dJ10_getChar_10 : decode cJ10_getChar 10 = .ok (.iload_n 1, 1) := dk_27 (dk_at dksJ10_getChar_0 10 rfl rfl)
theorem dJ10_getChar_11 : decode cJ10_getChar 11 = .ok (.aload_n 0, 1) := dk_42 (dk_at dksJ10_getChar_0 11 rfl rfl)
theorem dJ10_getChar_12 : decode cJ10_getChar 12 = .ok (.invokestatic 48, 3) := dk_184 0 48 (dk_at dksJ10_getChar_0 12 rfl rfl)
theorem dJ10_getChar_15 : decode cJ10_getChar 15 = .ok (.if_icmp .lt 13, 3) := dk_161 0 13 (dk_at dksJ10_getChar_0 15 rfl rfl)
theorem dJ10_getChar_18 : decode cJ10_getChar 18 = .ok (.new 52, 3) := dk_187 0 52 (dk_at dksJ10_getChar_0 18 rfl rfl)
theorem dJ10_getChar_21 : decode cJ10_getChar 21 = .ok (.dup, 1) := dk_89 (dk_at dksJ10_getChar_0 21 rfl rfl)
theorem dJ10_getChar_22 : decode cJ10_getChar 22 = .ok (.ldc 54, 2) := dk_18 54 (dk_at dksJ10_getChar_0 22 rfl rfl)
theorem dJ10_getChar_24 : decode cJ10_getChar 24 = .ok (.invokespecial 56, 3) := dk_183 0 56 (dk_at dksJ10_getChar_1 0 rfl rfl)
theorem dJ10_getChar_27 : decode cJ10_getChar 27 = .ok (.athrow, 1) := dk_191 (dk_at dksJ10_getChar_1 3 rfl rfl)
theorem dJ10_getChar_28 : decode cJ10_getChar 28 = .ok (.iload_n 1, 1) := dk_27 (dk_at dksJ10_getChar_1 4 rfl rfl)
theorem dJ10_getChar_29 : decode cJ10_getChar 29 = .ok (.iconst 1, 1) := dk_4 (dk_at dksJ10_getChar_1 5 rfl rfl)
theorem dJ10_getChar_30 : decode cJ10_getChar 30 = .ok (.ishl, 1) := dk_120 (dk_at dksJ10_getChar_1 6 rfl rfl)
theorem dJ10_getChar_31 : decode cJ10_getChar 31 = .ok (.istore_n 1, 1) := dk_60 (dk_at dksJ10_getChar_1 7 rfl rfl)
theorem dJ10_getChar_32 : decode cJ10_getChar 32 = .ok (.aload_n 0, 1) := dk_42 (dk_at dksJ10_getChar_1 8 rfl rfl)
theorem dJ10_getChar_33 : decode cJ10_getChar 33 = .ok (.iload_n 1, 1) := dk_27 (dk_at dksJ10_getChar_1 9 rfl rfl)
theorem dJ10_getChar_34 : decode cJ10_getChar 34 = .ok (.iinc 1 1, 3) := dk_132 1 1 (dk_at dksJ10_getChar_1 10 rfl rfl)
theorem dJ10_getChar_37 : decode cJ10_getChar 37 = .ok (.baload, 1) := dk_51 (dk_at dksJ10_getChar_1 13 rfl rfl)
theorem dJ10_getChar_38 : decode cJ10_getChar 38 = .ok (.sipush 255, 3) := dk_17 0 255 (dk_at dksJ10_getChar_1 14 rfl rfl)
theorem dJ10_getChar_41 : decode cJ10_getChar 41 = .ok (.iand, 1) := dk_126 (dk_at dksJ10_getChar_1 17 rfl rfl)
theorem dJ10_getChar_42 : decode cJ10_getChar 42 = .ok (.getstatic 59, 3) := dk_178 0 59 (dk_at dksJ10_getChar_1 18 rfl rfl)
theorem dJ10_getChar_45 : decode cJ10_getChar 45 = .ok (.ishl, 1) := dk_120 (dk_at dksJ10_getChar_1 21 rfl rfl)
theorem dJ10_getChar_46 : decode cJ10_getChar 46 = .ok (.aload_n 0, 1) := dk_42 (dk_at dksJ10_getChar_1 22 rfl rfl)
theorem dJ10_getChar_47 : decode cJ10_getChar 47 = .ok (.iload_n 1, 1) := dk_27 (dk_at dksJ10_getChar_1 23 rfl rfl)
theorem dJ10_getChar_48 : decode cJ10_getChar 48 = .ok (.baload, 1) := dk_51 (dk_at dksJ10_getChar_2 0 rfl rfl)
theorem dJ10_getChar_49 : decode cJ10_getChar 49 = .ok (.sipush 255, 3) := dk_17 0 255 (dk_at dksJ10_getChar_2 1 rfl rfl)
theorem dJ10_getChar_52 : decode cJ10_getChar 52 = .ok (.iand, 1) := dk_126 (dk_at dksJ10_getChar_2 4 rfl rfl)
theorem dJ10_getChar_53 : decode cJ10_getChar 53 = .ok (.getstatic 63, 3) := dk_178 0 63 (dk_at dksJ10_getChar_2 5 rfl rfl)
theorem dJ10_getChar_56 : decode cJ10_getChar 56 = .ok (.ishl, 1) := dk_120 (dk_at dksJ10_getChar_2 8 rfl rfl)
theorem dJ10_getChar_57 : decode cJ10_getChar 57 = .ok (.ior, 1) := dk_128 (dk_at dksJ10_getChar_2 9 rfl rfl)
theorem dJ10_getChar_58 : decode cJ10_getChar 58 = .ok (.i2c, 1) := dk_146 (dk_at dksJ10_getChar_2 10 rfl rfl)
theorem dJ10_getChar_59 : decode cJ10_getChar 59 = .ok (.ireturn, 1) := dk_172 (dk_at dksJ10_getChar_2 11 rfl rfl)
abbrev cJ10_coderFromArrayLen : ByteArray := prog_41_method_15_code
def yJ10_coderFromArrayLen : MethodName := ⟨RJ10, "coderFromArrayLen", "([BI)B"⟩
def dkwJ10_coderFromArrayLen_0 : List UInt8 := [27, 42, 190, 100, 16, 31, 124, 145, 172]
abbrev dktJ10_coderFromArrayLen_0 : List UInt8 := dkwJ10_coderFromArrayLen_0 ++ []
theorem dksJ10_coderFromArrayLen_0 : cJ10_coderFromArrayLen.data.toList.drop 0 = dktJ10_coderFromArrayLen_0 := by decide +kernel
theorem dJ10_coderFromArrayLen_0 : decode cJ10_coderFromArrayLen 0 = .ok (.iload_n 1, 1) := dk_27 (dk_at dksJ10_coderFromArrayLen_0 0 rfl rfl)
theorem dJ10_coderFromArrayLen_1 : decode cJ10_coderFromArrayLen 1 = .ok (.aload_n 0, 1) := dk_42 (dk_at dksJ10_coderFromArrayLen_0 1 rfl rfl)
theorem dJ10_coderFromArrayLen_2 : decode cJ10_coderFromArrayLen 2 = .ok (.arraylength, 1) := dk_190 (dk_at dksJ10_coderFromArrayLen_0 2 rfl rfl)
theorem dJ10_coderFromArrayLen_3 : decode cJ10_coderFromArrayLen 3 = .ok (.isub, 1) := dk_100 (dk_at dksJ10_coderFromArrayLen_0 3 rfl rfl)
theorem dJ10_coderFromArrayLen_4 : decode cJ10_coderFromArrayLen 4 = .ok (.bipush 31, 2) := dk_16 31 (dk_at dksJ10_coderFromArrayLen_0 4 rfl rfl)
theorem dJ10_coderFromArrayLen_6 : decode cJ10_coderFromArrayLen 6 = .ok (.iushr, 1) := dk_124 (dk_at dksJ10_coderFromArrayLen_0 6 rfl rfl)
theorem dJ10_coderFromArrayLen_7 : decode cJ10_coderFromArrayLen 7 = .ok (.i2b, 1) := dk_145 (dk_at dksJ10_coderFromArrayLen_0 7 rfl rfl)
theorem dJ10_coderFromArrayLen_8 : decode cJ10_coderFromArrayLen 8 = .ok (.ireturn, 1) := dk_172 (dk_at dksJ10_coderFromArrayLen_0 8 rfl rfl)
abbrev cJ10_putCharSB : ByteArray := prog_41_method_71_code
def yJ10_putCharSB : MethodName := ⟨RJ10, "putCharSB", "([BII)V"⟩
def dkwJ10_putCharSB_0 : List UInt8 := [27, 42, 184, 0, 67, 42, 27, 28, 184, 0, 111, 177]
abbrev dktJ10_putCharSB_0 : List UInt8 := dkwJ10_putCharSB_0 ++ []
theorem dksJ10_putCharSB_0 : cJ10_putCharSB.data.toList.drop 0 = dktJ10_putCharSB_0 := by decide +kernel
theorem dJ10_putCharSB_0 : decode cJ10_putCharSB 0 = .ok (.iload_n 1, 1) := dk_27 (dk_at dksJ10_putCharSB_0 0 rfl rfl)
theorem dJ10_putCharSB_1 : decode cJ10_putCharSB 1 = .ok (.aload_n 0, 1) := dk_42 (dk_at dksJ10_putCharSB_0 1 rfl rfl)
theorem dJ10_putCharSB_2 : decode cJ10_putCharSB 2 = .ok (.invokestatic 67, 3) := dk_184 0 67 (dk_at dksJ10_putCharSB_0 2 rfl rfl)
theorem dJ10_putCharSB_5 : decode cJ10_putCharSB 5 = .ok (.aload_n 0, 1) := dk_42 (dk_at dksJ10_putCharSB_0 5 rfl rfl)
theorem dJ10_putCharSB_6 : decode cJ10_putCharSB 6 = .ok (.iload_n 1, 1) := dk_27 (dk_at dksJ10_putCharSB_0 6 rfl rfl)
theorem dJ10_putCharSB_7 : decode cJ10_putCharSB 7 = .ok (.iload_n 2, 1) := dk_28 (dk_at dksJ10_putCharSB_0 7 rfl rfl)
theorem dJ10_putCharSB_8 : decode cJ10_putCharSB 8 = .ok (.invokestatic 111, 3) := dk_184 0 111 (dk_at dksJ10_putCharSB_0 8 rfl rfl)
theorem dJ10_putCharSB_11 : decode cJ10_putCharSB 11 = .ok (.return_, 1) := dk_177 (dk_at dksJ10_putCharSB_0 11 rfl rfl)
abbrev cJ10_checkIndex : ByteArray := prog_41_method_91_code
def yJ10_checkIndex : MethodName := ⟨RJ10, "checkIndex", "(I[B)V"⟩
def dkwJ10_checkIndex_0 : List UInt8 := [26, 43, 184, 0, 48, 184, 1, 158, 177]
abbrev dktJ10_checkIndex_0 : List UInt8 := dkwJ10_checkIndex_0 ++ []
theorem dksJ10_checkIndex_0 : cJ10_checkIndex.data.toList.drop 0 = dktJ10_checkIndex_0 := by decide +kernel
theorem dJ10_checkIndex_0 : decode cJ10_checkIndex 0 = .ok (.iload_n 0, 1) := dk_26 (dk_at dksJ10_checkIndex_0 0 rfl rfl)
theorem dJ10_checkIndex_1 : decode cJ10_checkIndex 1 = .ok (.aload_n 1, 1) := dk_43 (dk_at dksJ10_checkIndex_0 1 rfl rfl)
theorem dJ10_checkIndex_2 : decode cJ10_checkIndex 2 = .ok (.invokestatic 48, 3) := dk_184 0 48 (dk_at dksJ10_checkIndex_0 2 rfl rfl)
theorem dJ10_checkIndex_5 : decode cJ10_checkIndex 5 = .ok (.invokestatic 414, 3) := dk_184 1 158 (dk_at dksJ10_checkIndex_0 5 rfl rfl)
theorem dJ10_checkIndex_8 : decode cJ10_checkIndex 8 = .ok (.return_, 1) := dk_177 (dk_at dksJ10_checkIndex_0 8 rfl rfl)
abbrev cJ10_contentEquals : ByteArray := prog_41_method_79_code
def yJ10_contentEquals : MethodName := ⟨RJ10, "contentEquals", "([B[BI)Z"⟩
def dkwJ10_contentEquals_1 : List UInt8 := [184, 0, 71, 159, 0, 5, 3, 172, 132, 3, 1, 167, 255, 230, 4, 172]
abbrev dktJ10_contentEquals_1 : List UInt8 := dkwJ10_contentEquals_1 ++ []
def dkwJ10_contentEquals_0 : List UInt8 := [3, 28, 43, 184, 0, 173, 3, 62, 29, 28, 162, 0, 27, 42, 29, 51, 17, 0, 255, 126, 146, 43, 29]
abbrev dktJ10_contentEquals_0 : List UInt8 := dkwJ10_contentEquals_0 ++ dktJ10_contentEquals_1
theorem dksJ10_contentEquals_0 : cJ10_contentEquals.data.toList.drop 0 = dktJ10_contentEquals_0 := by decide +kernel
theorem dksJ10_contentEquals_1 : cJ10_contentEquals.data.toList.drop 23 = dktJ10_contentEquals_1 := dk_seg dksJ10_contentEquals_0 23 rfl rfl
theorem dJ10_contentEquals_0 : decode cJ10_contentEquals 0 = .ok (.iconst 0, 1) := dk_3 (dk_at dksJ10_contentEquals_0 0 rfl rfl)
theorem dJ10_contentEquals_1 : decode cJ10_contentEquals 1 = .ok (.iload_n 2, 1) := dk_28 (dk_at dksJ10_contentEquals_0 1 rfl rfl)
theorem dJ10_contentEquals_2 : decode cJ10_contentEquals 2 = .ok (.aload_n 1, 1) := dk_43 (dk_at dksJ10_contentEquals_0 2 rfl rfl)
theorem dJ10_contentEquals_3 : decode cJ10_contentEquals 3 = .ok (.invokestatic 173, 3) := dk_184 0 173 (dk_at dksJ10_contentEquals_0 3 rfl rfl)
theorem dJ10_contentEquals_6 : decode cJ10_contentEquals 6 = .ok (.iconst 0, 1) := dk_3 (dk_at dksJ10_contentEquals_0 6 rfl rfl)
theorem dJ10_contentEquals_7 : decode cJ10_contentEquals 7 = .ok (.istore_n 3, 1) := dk_62 (dk_at dksJ10_contentEquals_0 7 rfl rfl)
theorem dJ10_contentEquals_8 : decode cJ10_contentEquals 8 = .ok (.iload_n 3, 1) := dk_29 (dk_at dksJ10_contentEquals_0 8 rfl rfl)
theorem dJ10_contentEquals_9 : decode cJ10_contentEquals 9 = .ok (.iload_n 2, 1) := dk_28 (dk_at dksJ10_contentEquals_0 9 rfl rfl)
theorem dJ10_contentEquals_10 : decode cJ10_contentEquals 10 = .ok (.if_icmp .ge 27, 3) := dk_162 0 27 (dk_at dksJ10_contentEquals_0 10 rfl rfl)
theorem dJ10_contentEquals_13 : decode cJ10_contentEquals 13 = .ok (.aload_n 0, 1) := dk_42 (dk_at dksJ10_contentEquals_0 13 rfl rfl)
theorem dJ10_contentEquals_14 : decode cJ10_contentEquals 14 = .ok (.iload_n 3, 1) := dk_29 (dk_at dksJ10_contentEquals_0 14 rfl rfl)
theorem dJ10_contentEquals_15 : decode cJ10_contentEquals 15 = .ok (.baload, 1) := dk_51 (dk_at dksJ10_contentEquals_0 15 rfl rfl)
theorem dJ10_contentEquals_16 : decode cJ10_contentEquals 16 = .ok (.sipush 255, 3) := dk_17 0 255 (dk_at dksJ10_contentEquals_0 16 rfl rfl)
theorem dJ10_contentEquals_19 : decode cJ10_contentEquals 19 = .ok (.iand, 1) := dk_126 (dk_at dksJ10_contentEquals_0 19 rfl rfl)
theorem dJ10_contentEquals_20 : decode cJ10_contentEquals 20 = .ok (.i2c, 1) := dk_146 (dk_at dksJ10_contentEquals_0 20 rfl rfl)
theorem dJ10_contentEquals_21 : decode cJ10_contentEquals 21 = .ok (.aload_n 1, 1) := dk_43 (dk_at dksJ10_contentEquals_0 21 rfl rfl)
theorem dJ10_contentEquals_22 : decode cJ10_contentEquals 22 = .ok (.iload_n 3, 1) := dk_29 (dk_at dksJ10_contentEquals_0 22 rfl rfl)
theorem dJ10_contentEquals_23 : decode cJ10_contentEquals 23 = .ok (.invokestatic 71, 3) := dk_184 0 71 (dk_at dksJ10_contentEquals_1 0 rfl rfl)
theorem dJ10_contentEquals_26 : decode cJ10_contentEquals 26 = .ok (.if_icmp .eq 5, 3) := dk_159 0 5 (dk_at dksJ10_contentEquals_1 3 rfl rfl)
theorem dJ10_contentEquals_29 : decode cJ10_contentEquals 29 = .ok (.iconst 0, 1) := dk_3 (dk_at dksJ10_contentEquals_1 6 rfl rfl)
theorem dJ10_contentEquals_30 : decode cJ10_contentEquals 30 = .ok (.ireturn, 1) := dk_172 (dk_at dksJ10_contentEquals_1 7 rfl rfl)
theorem dJ10_contentEquals_31 : decode cJ10_contentEquals 31 = .ok (.iinc 3 1, 3) := dk_132 3 1 (dk_at dksJ10_contentEquals_1 8 rfl rfl)
theorem dJ10_contentEquals_34 : decode cJ10_contentEquals 34 = .ok (.goto (-26), 3) := dk_167 255 230 (dk_at dksJ10_contentEquals_1 11 rfl rfl)
theorem dJ10_contentEquals_37 : decode cJ10_contentEquals 37 = .ok (.iconst 1, 1) := dk_4 (dk_at dksJ10_contentEquals_1 14 rfl rfl)
theorem dJ10_contentEquals_38 : decode cJ10_contentEquals 38 = .ok (.ireturn, 1) := dk_172 (dk_at dksJ10_contentEquals_1 15 rfl rfl)
abbrev cJ10_charAt : ByteArray := prog_41_method_83_code
def yJ10_charAt : MethodName := ⟨RJ10, "charAt", "([BI)C"⟩
def dkwJ10_charAt_0 : List UInt8 := [27, 42, 184, 0, 67, 42, 27, 184, 0, 71, 172]
abbrev dktJ10_charAt_0 : List UInt8 := dkwJ10_charAt_0 ++ []
theorem dksJ10_charAt_0 : cJ10_charAt.data.toList.drop 0 = dktJ10_charAt_0 := by decide +kernel
theorem dJ10_charAt_0 : decode cJ10_charAt 0 = .ok (.iload_n 1, 1) := dk_27 (dk_at dksJ10_charAt_0 0 rfl rfl)
theorem dJ10_charAt_1 : decode cJ10_charAt 1 = .ok (.aload_n 0, 1) := dk_42 (dk_at dksJ10_charAt_0 1 rfl rfl)
theorem dJ10_charAt_2 : decode cJ10_charAt 2 = .ok (.invokestatic 67, 3) := dk_184 0 67 (dk_at dksJ10_charAt_0 2 rfl rfl)
theorem dJ10_charAt_5 : decode cJ10_charAt 5 = .ok (.aload_n 0, 1) := dk_42 (dk_at dksJ10_charAt_0 5 rfl rfl)
theorem dJ10_charAt_6 : decode cJ10_charAt 6 = .ok (.iload_n 1, 1) := dk_27 (dk_at dksJ10_charAt_0 6 rfl rfl)
theorem dJ10_charAt_7 : decode cJ10_charAt 7 = .ok (.invokestatic 71, 3) := dk_184 0 71 (dk_at dksJ10_charAt_0 7 rfl rfl)
theorem dJ10_charAt_10 : decode cJ10_charAt 10 = .ok (.ireturn, 1) := dk_172 (dk_at dksJ10_charAt_0 10 rfl rfl)
abbrev cJ10_contentEquals_2 : ByteArray := prog_41_method_80_code
def yJ10_contentEquals_2 : MethodName := ⟨RJ10, "contentEquals", "([BLjava/lang/CharSequence;I)Z"⟩
def dkwJ10_contentEquals_2_1 : List UInt8 := [159, 0, 5, 3, 172, 132, 3, 1, 167, 255, 231, 4, 172]
abbrev dktJ10_contentEquals_2_1 : List UInt8 := dkwJ10_contentEquals_2_1 ++ []
def dkwJ10_contentEquals_2_0 : List UInt8 := [28, 42, 184, 0, 180, 3, 62, 29, 28, 162, 0, 26, 42, 29, 184, 0, 71, 43, 29, 185, 1, 132, 2, 0]
abbrev dktJ10_contentEquals_2_0 : List UInt8 := dkwJ10_contentEquals_2_0 ++ dktJ10_contentEquals_2_1
theorem dksJ10_contentEquals_2_0 : cJ10_contentEquals_2.data.toList.drop 0 = dktJ10_contentEquals_2_0 := by decide +kernel
theorem dksJ10_contentEquals_2_1 : cJ10_contentEquals_2.data.toList.drop 24 = dktJ10_contentEquals_2_1 := dk_seg dksJ10_contentEquals_2_0 24 rfl rfl
theorem dJ10_contentEquals_2_0 : decode cJ10_contentEquals_2 0 = .ok (.iload_n 2, 1) := dk_28 (dk_at dksJ10_contentEquals_2_0 0 rfl rfl)
theorem dJ10_contentEquals_2_1 : decode cJ10_contentEquals_2 1 = .ok (.aload_n 0, 1) := dk_42 (dk_at dksJ10_contentEquals_2_0 1 rfl rfl)
theorem dJ10_contentEquals_2_2 : decode cJ10_contentEquals_2 2 = .ok (.invokestatic 180, 3) := dk_184 0 180 (dk_at dksJ10_contentEquals_2_0 2 rfl rfl)
theorem dJ10_contentEquals_2_5 : decode cJ10_contentEquals_2 5 = .ok (.iconst 0, 1) := dk_3 (dk_at dksJ10_contentEquals_2_0 5 rfl rfl)
theorem dJ10_contentEquals_2_6 : decode cJ10_contentEquals_2 6 = .ok (.istore_n 3, 1) := dk_62 (dk_at dksJ10_contentEquals_2_0 6 rfl rfl)
theorem dJ10_contentEquals_2_7 : decode cJ10_contentEquals_2 7 = .ok (.iload_n 3, 1) := dk_29 (dk_at dksJ10_contentEquals_2_0 7 rfl rfl)
theorem dJ10_contentEquals_2_8 : decode cJ10_contentEquals_2 8 = .ok (.iload_n 2, 1) := dk_28 (dk_at dksJ10_contentEquals_2_0 8 rfl rfl)
theorem dJ10_contentEquals_2_9 : decode cJ10_contentEquals_2 9 = .ok (.if_icmp .ge 26, 3) := dk_162 0 26 (dk_at dksJ10_contentEquals_2_0 9 rfl rfl)
theorem dJ10_contentEquals_2_12 : decode cJ10_contentEquals_2 12 = .ok (.aload_n 0, 1) := dk_42 (dk_at dksJ10_contentEquals_2_0 12 rfl rfl)
theorem dJ10_contentEquals_2_13 : decode cJ10_contentEquals_2 13 = .ok (.iload_n 3, 1) := dk_29 (dk_at dksJ10_contentEquals_2_0 13 rfl rfl)
theorem dJ10_contentEquals_2_14 : decode cJ10_contentEquals_2 14 = .ok (.invokestatic 71, 3) := dk_184 0 71 (dk_at dksJ10_contentEquals_2_0 14 rfl rfl)
theorem dJ10_contentEquals_2_17 : decode cJ10_contentEquals_2 17 = .ok (.aload_n 1, 1) := dk_43 (dk_at dksJ10_contentEquals_2_0 17 rfl rfl)
theorem dJ10_contentEquals_2_18 : decode cJ10_contentEquals_2 18 = .ok (.iload_n 3, 1) := dk_29 (dk_at dksJ10_contentEquals_2_0 18 rfl rfl)
theorem dJ10_contentEquals_2_19 : decode cJ10_contentEquals_2 19 = .ok (.invokeinterface 388 2, 5) := by decide +kernel
theorem dJ10_contentEquals_2_24 : decode cJ10_contentEquals_2 24 = .ok (.if_icmp .eq 5, 3) := dk_159 0 5 (dk_at dksJ10_contentEquals_2_1 0 rfl rfl)
theorem dJ10_contentEquals_2_27 : decode cJ10_contentEquals_2 27 = .ok (.iconst 0, 1) := dk_3 (dk_at dksJ10_contentEquals_2_1 3 rfl rfl)
theorem dJ10_contentEquals_2_28 : decode cJ10_contentEquals_2 28 = .ok (.ireturn, 1) := dk_172 (dk_at dksJ10_contentEquals_2_1 4 rfl rfl)
theorem dJ10_contentEquals_2_29 : decode cJ10_contentEquals_2 29 = .ok (.iinc 3 1, 3) := dk_132 3 1 (dk_at dksJ10_contentEquals_2_1 5 rfl rfl)
theorem dJ10_contentEquals_2_32 : decode cJ10_contentEquals_2 32 = .ok (.goto (-25), 3) := dk_167 255 231 (dk_at dksJ10_contentEquals_2_1 8 rfl rfl)
theorem dJ10_contentEquals_2_35 : decode cJ10_contentEquals_2 35 = .ok (.iconst 1, 1) := dk_4 (dk_at dksJ10_contentEquals_2_1 11 rfl rfl)
theorem dJ10_contentEquals_2_36 : decode cJ10_contentEquals_2 36 = .ok (.ireturn, 1) := dk_172 (dk_at dksJ10_contentEquals_2_1 12 rfl rfl)
abbrev cJ10_checkOffset : ByteArray := prog_41_method_92_code
def yJ10_checkOffset : MethodName := ⟨RJ10, "checkOffset", "(I[B)V"⟩
def dkwJ10_checkOffset_0 : List UInt8 := [26, 43, 184, 0, 48, 184, 1, 161, 177]
abbrev dktJ10_checkOffset_0 : List UInt8 := dkwJ10_checkOffset_0 ++ []
theorem dksJ10_checkOffset_0 : cJ10_checkOffset.data.toList.drop 0 = dktJ10_checkOffset_0 := by decide +kernel
theorem dJ10_checkOffset_0 : decode cJ10_checkOffset 0 = .ok (.iload_n 0, 1) := dk_26 (dk_at dksJ10_checkOffset_0 0 rfl rfl)
theorem dJ10_checkOffset_1 : decode cJ10_checkOffset 1 = .ok (.aload_n 1, 1) := dk_43 (dk_at dksJ10_checkOffset_0 1 rfl rfl)
theorem dJ10_checkOffset_2 : decode cJ10_checkOffset 2 = .ok (.invokestatic 48, 3) := dk_184 0 48 (dk_at dksJ10_checkOffset_0 2 rfl rfl)
theorem dJ10_checkOffset_5 : decode cJ10_checkOffset 5 = .ok (.invokestatic 417, 3) := dk_184 1 161 (dk_at dksJ10_checkOffset_0 5 rfl rfl)
theorem dJ10_checkOffset_8 : decode cJ10_checkOffset 8 = .ok (.return_, 1) := dk_177 (dk_at dksJ10_checkOffset_0 8 rfl rfl)
abbrev cJ10_hashCode : ByteArray := prog_41_method_39_code
def yJ10_hashCode : MethodName := ⟨RJ10, "hashCode", "([B)I"⟩
def dkwJ10_hashCode_2 : List UInt8 := [3, 167, 0, 22, 42, 3, 184, 0, 71, 167, 0, 14, 42, 3, 42, 190, 4, 122, 3, 8, 184, 0, 220, 172]
abbrev dktJ10_hashCode_2 : List UInt8 := dkwJ10_hashCode_2 ++ []
def dkwJ10_hashCode_1 : List UInt8 := [171, 0, 0, 0, 0, 38, 0, 0, 0, 2, 0, 0, 0, 0, 0, 0, 0, 26, 0, 0, 0, 2, 0, 0, 0, 30]
abbrev dktJ10_hashCode_1 : List UInt8 := dkwJ10_hashCode_1 ++ dktJ10_hashCode_2
def dkwJ10_hashCode_0 : List UInt8 := [42, 190]
abbrev dktJ10_hashCode_0 : List UInt8 := dkwJ10_hashCode_0 ++ dktJ10_hashCode_1
theorem dksJ10_hashCode_0 : cJ10_hashCode.data.toList.drop 0 = dktJ10_hashCode_0 := by decide +kernel
theorem dksJ10_hashCode_1 : cJ10_hashCode.data.toList.drop 2 = dktJ10_hashCode_1 := dk_seg dksJ10_hashCode_0 2 rfl rfl
theorem dksJ10_hashCode_2 : cJ10_hashCode.data.toList.drop 28 = dktJ10_hashCode_2 := dk_seg dksJ10_hashCode_1 26 rfl rfl
theorem dJ10_hashCode_0 : decode cJ10_hashCode 0 = .ok (.aload_n 0, 1) := dk_42 (dk_at dksJ10_hashCode_0 0 rfl rfl)
theorem dJ10_hashCode_1 : decode cJ10_hashCode 1 = .ok (.arraylength, 1) := dk_190 (dk_at dksJ10_hashCode_0 1 rfl rfl)
theorem dJ10_hashCode_2 : decode cJ10_hashCode 2 = .ok (.lookupswitch 38 #[(0, 26), (2, 30)], 26) := by decide +kernel
theorem dJ10_hashCode_28 : decode cJ10_hashCode 28 = .ok (.iconst 0, 1) := dk_3 (dk_at dksJ10_hashCode_2 0 rfl rfl)
theorem dJ10_hashCode_29 : decode cJ10_hashCode 29 = .ok (.goto 22, 3) := dk_167 0 22 (dk_at dksJ10_hashCode_2 1 rfl rfl)
theorem dJ10_hashCode_32 : decode cJ10_hashCode 32 = .ok (.aload_n 0, 1) := dk_42 (dk_at dksJ10_hashCode_2 4 rfl rfl)
theorem dJ10_hashCode_33 : decode cJ10_hashCode 33 = .ok (.iconst 0, 1) := dk_3 (dk_at dksJ10_hashCode_2 5 rfl rfl)
theorem dJ10_hashCode_34 : decode cJ10_hashCode 34 = .ok (.invokestatic 71, 3) := dk_184 0 71 (dk_at dksJ10_hashCode_2 6 rfl rfl)
theorem dJ10_hashCode_37 : decode cJ10_hashCode 37 = .ok (.goto 14, 3) := dk_167 0 14 (dk_at dksJ10_hashCode_2 9 rfl rfl)
theorem dJ10_hashCode_40 : decode cJ10_hashCode 40 = .ok (.aload_n 0, 1) := dk_42 (dk_at dksJ10_hashCode_2 12 rfl rfl)
theorem dJ10_hashCode_41 : decode cJ10_hashCode 41 = .ok (.iconst 0, 1) := dk_3 (dk_at dksJ10_hashCode_2 13 rfl rfl)
theorem dJ10_hashCode_42 : decode cJ10_hashCode 42 = .ok (.aload_n 0, 1) := dk_42 (dk_at dksJ10_hashCode_2 14 rfl rfl)
theorem dJ10_hashCode_43 : decode cJ10_hashCode 43 = .ok (.arraylength, 1) := dk_190 (dk_at dksJ10_hashCode_2 15 rfl rfl)
theorem dJ10_hashCode_44 : decode cJ10_hashCode 44 = .ok (.iconst 1, 1) := dk_4 (dk_at dksJ10_hashCode_2 16 rfl rfl)
theorem dJ10_hashCode_45 : decode cJ10_hashCode 45 = .ok (.ishr, 1) := dk_122 (dk_at dksJ10_hashCode_2 17 rfl rfl)
theorem dJ10_hashCode_46 : decode cJ10_hashCode 46 = .ok (.iconst 0, 1) := dk_3 (dk_at dksJ10_hashCode_2 18 rfl rfl)
theorem dJ10_hashCode_47 : decode cJ10_hashCode 47 = .ok (.iconst 5, 1) := dk_8 (dk_at dksJ10_hashCode_2 19 rfl rfl)
theorem dJ10_hashCode_48 : decode cJ10_hashCode 48 = .ok (.invokestatic 220, 3) := dk_184 0 220 (dk_at dksJ10_hashCode_2 20 rfl rfl)
theorem dJ10_hashCode_51 : decode cJ10_hashCode 51 = .ok (.ireturn, 1) := dk_172 (dk_at dksJ10_hashCode_2 23 rfl rfl)
abbrev cJ10_fillNull : ByteArray := prog_41_method_70_code
def yJ10_fillNull : MethodName := ⟨RJ10, "fillNull", "([BII)V"⟩
def dkwJ10_fillNull_0 : List UInt8 := [42, 27, 4, 120, 28, 4, 120, 3, 184, 1, 124, 177]
abbrev dktJ10_fillNull_0 : List UInt8 := dkwJ10_fillNull_0 ++ []
theorem dksJ10_fillNull_0 : cJ10_fillNull.data.toList.drop 0 = dktJ10_fillNull_0 := by decide +kernel
theorem dJ10_fillNull_0 : decode cJ10_fillNull 0 = .ok (.aload_n 0, 1) := dk_42 (dk_at dksJ10_fillNull_0 0 rfl rfl)
theorem dJ10_fillNull_1 : decode cJ10_fillNull 1 = .ok (.iload_n 1, 1) := dk_27 (dk_at dksJ10_fillNull_0 1 rfl rfl)
theorem dJ10_fillNull_2 : decode cJ10_fillNull 2 = .ok (.iconst 1, 1) := dk_4 (dk_at dksJ10_fillNull_0 2 rfl rfl)
theorem dJ10_fillNull_3 : decode cJ10_fillNull 3 = .ok (.ishl, 1) := dk_120 (dk_at dksJ10_fillNull_0 3 rfl rfl)
theorem dJ10_fillNull_4 : decode cJ10_fillNull 4 = .ok (.iload_n 2, 1) := dk_28 (dk_at dksJ10_fillNull_0 4 rfl rfl)
theorem dJ10_fillNull_5 : decode cJ10_fillNull 5 = .ok (.iconst 1, 1) := dk_4 (dk_at dksJ10_fillNull_0 5 rfl rfl)
theorem dJ10_fillNull_6 : decode cJ10_fillNull 6 = .ok (.ishl, 1) := dk_120 (dk_at dksJ10_fillNull_0 6 rfl rfl)
theorem dJ10_fillNull_7 : decode cJ10_fillNull 7 = .ok (.iconst 0, 1) := dk_3 (dk_at dksJ10_fillNull_0 7 rfl rfl)
theorem dJ10_fillNull_8 : decode cJ10_fillNull 8 = .ok (.invokestatic 380, 3) := dk_184 1 124 (dk_at dksJ10_fillNull_0 8 rfl rfl)
theorem dJ10_fillNull_11 : decode cJ10_fillNull 11 = .ok (.return_, 1) := dk_177 (dk_at dksJ10_fillNull_0 11 rfl rfl)
abbrev cJ10_getChars_3 : ByteArray := prog_41_method_78_code
def yJ10_getChars_3 : MethodName := ⟨RJ10, "getChars", "(JII[B)I"⟩
def dkwJ10_getChars_3_1 : List UInt8 := [21, 5, 159, 0, 11, 187, 0, 52, 89, 183, 0, 66, 191, 21, 5, 172]
abbrev dktJ10_getChars_3_1 : List UInt8 := dkwJ10_getChars_3_1 ++ []
def dkwJ10_getChars_3_0 : List UInt8 := [28, 29, 25, 4, 184, 0, 96, 30, 29, 25, 4, 184, 1, 140, 54, 5, 178, 0, 44, 154, 0, 17, 28]
abbrev dktJ10_getChars_3_0 : List UInt8 := dkwJ10_getChars_3_0 ++ dktJ10_getChars_3_1
theorem dksJ10_getChars_3_0 : cJ10_getChars_3.data.toList.drop 0 = dktJ10_getChars_3_0 := by decide +kernel
theorem dksJ10_getChars_3_1 : cJ10_getChars_3.data.toList.drop 23 = dktJ10_getChars_3_1 := dk_seg dksJ10_getChars_3_0 23 rfl rfl
theorem dJ10_getChars_3_0 : decode cJ10_getChars_3 0 = .ok (.iload_n 2, 1) := dk_28 (dk_at dksJ10_getChars_3_0 0 rfl rfl)
theorem dJ10_getChars_3_1 : decode cJ10_getChars_3 1 = .ok (.iload_n 3, 1) := dk_29 (dk_at dksJ10_getChars_3_0 1 rfl rfl)
theorem dJ10_getChars_3_2 : decode cJ10_getChars_3 2 = .ok (.aload 4, 2) := dk_25 4 (dk_at dksJ10_getChars_3_0 2 rfl rfl)
theorem dJ10_getChars_3_4 : decode cJ10_getChars_3 4 = .ok (.invokestatic 96, 3) := dk_184 0 96 (dk_at dksJ10_getChars_3_0 4 rfl rfl)
theorem dJ10_getChars_3_7 : decode cJ10_getChars_3 7 = .ok (.lload_n 0, 1) := dk_30 (dk_at dksJ10_getChars_3_0 7 rfl rfl)
theorem dJ10_getChars_3_8 : decode cJ10_getChars_3 8 = .ok (.iload_n 3, 1) := dk_29 (dk_at dksJ10_getChars_3_0 8 rfl rfl)
theorem dJ10_getChars_3_9 : decode cJ10_getChars_3 9 = .ok (.aload 4, 2) := dk_25 4 (dk_at dksJ10_getChars_3_0 9 rfl rfl)
theorem dJ10_getChars_3_11 : decode cJ10_getChars_3 11 = .ok (.invokestatic 396, 3) := dk_184 1 140 (dk_at dksJ10_getChars_3_0 11 rfl rfl)
theorem dJ10_getChars_3_14 : decode cJ10_getChars_3 14 = .ok (.istore 5, 2) := dk_54 5 (dk_at dksJ10_getChars_3_0 14 rfl rfl)
theorem dJ10_getChars_3_16 : decode cJ10_getChars_3 16 = .ok (.getstatic 44, 3) := dk_178 0 44 (dk_at dksJ10_getChars_3_0 16 rfl rfl)
theorem dJ10_getChars_3_19 : decode cJ10_getChars_3 19 = .ok (.ifCond .ne 17, 3) := dk_154 0 17 (dk_at dksJ10_getChars_3_0 19 rfl rfl)
theorem dJ10_getChars_3_22 : decode cJ10_getChars_3 22 = .ok (.iload_n 2, 1) := dk_28 (dk_at dksJ10_getChars_3_0 22 rfl rfl)
theorem dJ10_getChars_3_23 : decode cJ10_getChars_3 23 = .ok (.iload 5, 2) := dk_21 5 (dk_at dksJ10_getChars_3_1 0 rfl rfl)
theorem dJ10_getChars_3_25 : decode cJ10_getChars_3 25 = .ok (.if_icmp .eq 11, 3) := dk_159 0 11 (dk_at dksJ10_getChars_3_1 2 rfl rfl)
theorem dJ10_getChars_3_28 : decode cJ10_getChars_3 28 = .ok (.new 52, 3) := dk_187 0 52 (dk_at dksJ10_getChars_3_1 5 rfl rfl)
theorem dJ10_getChars_3_31 : decode cJ10_getChars_3 31 = .ok (.dup, 1) := dk_89 (dk_at dksJ10_getChars_3_1 8 rfl rfl)
theorem dJ10_getChars_3_32 : decode cJ10_getChars_3 32 = .ok (.invokespecial 66, 3) := dk_183 0 66 (dk_at dksJ10_getChars_3_1 9 rfl rfl)
theorem dJ10_getChars_3_35 : decode cJ10_getChars_3 35 = .ok (.athrow, 1) := dk_191 (dk_at dksJ10_getChars_3_1 12 rfl rfl)
theorem dJ10_getChars_3_36 : decode cJ10_getChars_3 36 = .ok (.iload 5, 2) := dk_21 5 (dk_at dksJ10_getChars_3_1 13 rfl rfl)
theorem dJ10_getChars_3_38 : decode cJ10_getChars_3 38 = .ok (.ireturn, 1) := dk_172 (dk_at dksJ10_getChars_3_1 15 rfl rfl)
abbrev cJ10_getChars_4 : ByteArray := prog_41_method_90_code
def yJ10_getChars_4 : MethodName := ⟨RJ10, "getChars", "(JI[B)I"⟩
def dkwJ10_getChars_4_8 : List UInt8 := [184, 0, 111, 21, 8, 153, 0, 14, 45, 132, 7, 255, 21, 7, 16, 45, 184, 0, 111, 21, 7, 172]
abbrev dktJ10_getChars_4_8 : List UInt8 := dkwJ10_getChars_4_8 ++ []
def dkwJ10_getChars_4_7 : List UInt8 := [184, 0, 111, 21, 10, 16, 247, 162, 0, 19, 45, 132, 7, 255, 21, 7, 178, 1, 151, 21, 10, 116, 51]
abbrev dktJ10_getChars_4_7 : List UInt8 := dkwJ10_getChars_4_7 ++ dktJ10_getChars_4_8
def dkwJ10_getChars_4_6 : List UInt8 := [21, 6, 51, 184, 0, 111, 167, 255, 198, 45, 132, 7, 255, 21, 7, 178, 1, 147, 21, 10, 116, 51]
abbrev dktJ10_getChars_4_6 : List UInt8 := dkwJ10_getChars_4_6 ++ dktJ10_getChars_4_7
def dkwJ10_getChars_4_5 : List UInt8 := [45, 132, 7, 255, 21, 7, 178, 1, 147, 21, 6, 51, 184, 0, 111, 45, 132, 7, 255, 21, 7, 178, 1, 151]
abbrev dktJ10_getChars_4_5 : List UInt8 := dkwJ10_getChars_4_5 ++ dktJ10_getChars_4_6
def dkwJ10_getChars_4_4 : List UInt8 := [163, 0, 57, 21, 10, 16, 100, 108, 54, 9, 21, 9, 16, 100, 104, 21, 10, 100, 54, 6, 21, 9, 54, 10]
abbrev dktJ10_getChars_4_4 : List UInt8 := dkwJ10_getChars_4_4 ++ dktJ10_getChars_4_5
def dkwJ10_getChars_4_3 : List UInt8 := [21, 7, 178, 1, 151, 21, 6, 51, 184, 0, 111, 167, 255, 197, 30, 136, 54, 10, 21, 10, 16, 156]
abbrev dktJ10_getChars_4_3 : List UInt8 := dkwJ10_getChars_4_3 ++ dktJ10_getChars_4_4
def dkwJ10_getChars_4_2 : List UInt8 := [54, 6, 22, 4, 63, 45, 132, 7, 255, 21, 7, 178, 1, 147, 21, 6, 51, 184, 0, 111, 45, 132, 7, 255]
abbrev dktJ10_getChars_4_2 : List UInt8 := dkwJ10_getChars_4_2 ++ dktJ10_getChars_4_3
def dkwJ10_getChars_4_1 : List UInt8 := [30, 20, 1, 154, 148, 157, 0, 57, 30, 20, 1, 156, 109, 55, 4, 22, 4, 20, 1, 156, 105, 30, 101, 136]
abbrev dktJ10_getChars_4_1 : List UInt8 := dkwJ10_getChars_4_1 ++ dktJ10_getChars_4_2
def dkwJ10_getChars_4_0 : List UInt8 := [28, 54, 7, 30, 9, 148, 156, 0, 7, 4, 167, 0, 4, 3, 54, 8, 21, 8, 154, 0, 6, 30, 117, 63]
abbrev dktJ10_getChars_4_0 : List UInt8 := dkwJ10_getChars_4_0 ++ dktJ10_getChars_4_1
theorem dksJ10_getChars_4_0 : cJ10_getChars_4.data.toList.drop 0 = dktJ10_getChars_4_0 := by decide +kernel
theorem dksJ10_getChars_4_1 : cJ10_getChars_4.data.toList.drop 24 = dktJ10_getChars_4_1 := dk_seg dksJ10_getChars_4_0 24 rfl rfl
theorem dksJ10_getChars_4_2 : cJ10_getChars_4.data.toList.drop 48 = dktJ10_getChars_4_2 := dk_seg dksJ10_getChars_4_1 24 rfl rfl
theorem dksJ10_getChars_4_3 : cJ10_getChars_4.data.toList.drop 72 = dktJ10_getChars_4_3 := dk_seg dksJ10_getChars_4_2 24 rfl rfl
theorem dksJ10_getChars_4_4 : cJ10_getChars_4.data.toList.drop 94 = dktJ10_getChars_4_4 := dk_seg dksJ10_getChars_4_3 22 rfl rfl
theorem dksJ10_getChars_4_5 : cJ10_getChars_4.data.toList.drop 118 = dktJ10_getChars_4_5 := dk_seg dksJ10_getChars_4_4 24 rfl rfl
theorem dksJ10_getChars_4_6 : cJ10_getChars_4.data.toList.drop 142 = dktJ10_getChars_4_6 := dk_seg dksJ10_getChars_4_5 24 rfl rfl
theorem dksJ10_getChars_4_7 : cJ10_getChars_4.data.toList.drop 164 = dktJ10_getChars_4_7 := dk_seg dksJ10_getChars_4_6 22 rfl rfl
theorem dksJ10_getChars_4_8 : cJ10_getChars_4.data.toList.drop 187 = dktJ10_getChars_4_8 := dk_seg dksJ10_getChars_4_7 23 rfl rfl
theorem dJ10_getChars_4_0 : decode cJ10_getChars_4 0 = .ok (.iload_n 2, 1) := dk_28 (dk_at dksJ10_getChars_4_0 0 rfl rfl)
theorem dJ10_getChars_4_1 : decode cJ10_getChars_4 1 = .ok (.istore 7, 2) := dk_54 7 (dk_at dksJ10_getChars_4_0 1 rfl rfl)
theorem dJ10_getChars_4_3 : decode cJ10_getChars_4 3 = .ok (.lload_n 0, 1) := dk_30 (dk_at dksJ10_getChars_4_0 3 rfl rfl)
theorem dJ10_getChars_4_4 : decode cJ10_getChars_4 4 = .ok (.lconst 0, 1) := dk_9 (dk_at dksJ10_getChars_4_0 4 rfl rfl)
theorem dJ10_getChars_4_5 : decode cJ10_getChars_4 5 = .ok (.lcmp, 1) := dk_148 (dk_at dksJ10_getChars_4_0 5 rfl rfl)
theorem dJ10_getChars_4_6 : decode cJ10_getChars_4 6 = .ok (.ifCond .ge 7, 3) := dk_156 0 7 (dk_at dksJ10_getChars_4_0 6 rfl rfl)
theorem dJ10_getChars_4_9 : decode cJ10_getChars_4 9 = .ok (.iconst 1, 1) := dk_4 (dk_at dksJ10_getChars_4_0 9 rfl rfl)
theorem dJ10_getChars_4_10 : decode cJ10_getChars_4 10 = .ok (.goto 4, 3) := dk_167 0 4 (dk_at dksJ10_getChars_4_0 10 rfl rfl)
theorem dJ10_getChars_4_13 : decode cJ10_getChars_4 13 = .ok (.iconst 0, 1) := dk_3 (dk_at dksJ10_getChars_4_0 13 rfl rfl)
theorem dJ10_getChars_4_14 : decode cJ10_getChars_4 14 = .ok (.istore 8, 2) := dk_54 8 (dk_at dksJ10_getChars_4_0 14 rfl rfl)
theorem dJ10_getChars_4_16 : decode cJ10_getChars_4 16 = .ok (.iload 8, 2) := dk_21 8 (dk_at dksJ10_getChars_4_0 16 rfl rfl)
theorem dJ10_getChars_4_18 : decode cJ10_getChars_4 18 = .ok (.ifCond .ne 6, 3) := dk_154 0 6 (dk_at dksJ10_getChars_4_0 18 rfl rfl)
theorem dJ10_getChars_4_21 : decode cJ10_getChars_4 21 = .ok (.lload_n 0, 1) := dk_30 (dk_at dksJ10_getChars_4_0 21 rfl rfl)
theorem dJ10_getChars_4_22 : decode cJ10_getChars_4 22 = .ok (.lneg, 1) := dk_117 (dk_at dksJ10_getChars_4_0 22 rfl rfl)
theorem dJ10_getChars_4_23 : decode cJ10_getChars_4 23 = .ok (.lstore_n 0, 1) := dk_63 (dk_at dksJ10_getChars_4_0 23 rfl rfl)
theorem dJ10_getChars_4_24 : decode cJ10_getChars_4 24 = .ok (.lload_n 0, 1) := dk_30 (dk_at dksJ10_getChars_4_1 0 rfl rfl)
theorem dJ10_getChars_4_25 : decode cJ10_getChars_4 25 = .ok (.ldc2_w 410, 3) := dk_20 1 154 (dk_at dksJ10_getChars_4_1 1 rfl rfl)
theorem dJ10_getChars_4_28 : decode cJ10_getChars_4 28 = .ok (.lcmp, 1) := dk_148 (dk_at dksJ10_getChars_4_1 4 rfl rfl)
theorem dJ10_getChars_4_29 : decode cJ10_getChars_4 29 = .ok (.ifCond .gt 57, 3) := dk_157 0 57 (dk_at dksJ10_getChars_4_1 5 rfl rfl)
theorem dJ10_getChars_4_32 : decode cJ10_getChars_4 32 = .ok (.lload_n 0, 1) := dk_30 (dk_at dksJ10_getChars_4_1 8 rfl rfl)
theorem dJ10_getChars_4_33 : decode cJ10_getChars_4 33 = .ok (.ldc2_w 412, 3) := dk_20 1 156 (dk_at dksJ10_getChars_4_1 9 rfl rfl)
theorem dJ10_getChars_4_36 : decode cJ10_getChars_4 36 = .ok (.ldiv, 1) := dk_109 (dk_at dksJ10_getChars_4_1 12 rfl rfl)
theorem dJ10_getChars_4_37 : decode cJ10_getChars_4 37 = .ok (.lstore 4, 2) := dk_55 4 (dk_at dksJ10_getChars_4_1 13 rfl rfl)
theorem dJ10_getChars_4_39 : decode cJ10_getChars_4 39 = .ok (.lload 4, 2) := dk_22 4 (dk_at dksJ10_getChars_4_1 15 rfl rfl)
theorem dJ10_getChars_4_41 : decode cJ10_getChars_4 41 = .ok (.ldc2_w 412, 3) := dk_20 1 156 (dk_at dksJ10_getChars_4_1 17 rfl rfl)
theorem dJ10_getChars_4_44 : decode cJ10_getChars_4 44 = .ok (.lmul, 1) := dk_105 (dk_at dksJ10_getChars_4_1 20 rfl rfl)
theorem dJ10_getChars_4_45 : decode cJ10_getChars_4 45 = .ok (.lload_n 0, 1) := dk_30 (dk_at dksJ10_getChars_4_1 21 rfl rfl)
theorem dJ10_getChars_4_46 : decode cJ10_getChars_4 46 = .ok (.lsub, 1) := dk_101 (dk_at dksJ10_getChars_4_1 22 rfl rfl)
theorem dJ10_getChars_4_47 : decode cJ10_getChars_4 47 = .ok (.l2i, 1) := dk_136 (dk_at dksJ10_getChars_4_1 23 rfl rfl)
theorem dJ10_getChars_4_48 : decode cJ10_getChars_4 48 = .ok (.istore 6, 2) := dk_54 6 (dk_at dksJ10_getChars_4_2 0 rfl rfl)
theorem dJ10_getChars_4_50 : decode cJ10_getChars_4 50 = .ok (.lload 4, 2) := dk_22 4 (dk_at dksJ10_getChars_4_2 2 rfl rfl)
theorem dJ10_getChars_4_52 : decode cJ10_getChars_4 52 = .ok (.lstore_n 0, 1) := dk_63 (dk_at dksJ10_getChars_4_2 4 rfl rfl)
theorem dJ10_getChars_4_53 : decode cJ10_getChars_4 53 = .ok (.aload_n 3, 1) := dk_45 (dk_at dksJ10_getChars_4_2 5 rfl rfl)
theorem dJ10_getChars_4_54 : decode cJ10_getChars_4 54 = .ok (.iinc 7 (-1), 3) := dk_132 7 255 (dk_at dksJ10_getChars_4_2 6 rfl rfl)
theorem dJ10_getChars_4_57 : decode cJ10_getChars_4 57 = .ok (.iload 7, 2) := dk_21 7 (dk_at dksJ10_getChars_4_2 9 rfl rfl)
theorem dJ10_getChars_4_59 : decode cJ10_getChars_4 59 = .ok (.getstatic 403, 3) := dk_178 1 147 (dk_at dksJ10_getChars_4_2 11 rfl rfl)
theorem dJ10_getChars_4_62 : decode cJ10_getChars_4 62 = .ok (.iload 6, 2) := dk_21 6 (dk_at dksJ10_getChars_4_2 14 rfl rfl)
theorem dJ10_getChars_4_64 : decode cJ10_getChars_4 64 = .ok (.baload, 1) := dk_51 (dk_at dksJ10_getChars_4_2 16 rfl rfl)
theorem dJ10_getChars_4_65 : decode cJ10_getChars_4 65 = .ok (.invokestatic 111, 3) := dk_184 0 111 (dk_at dksJ10_getChars_4_2 17 rfl rfl)
theorem dJ10_getChars_4_68 : decode cJ10_getChars_4 68 = .ok (.aload_n 3, 1) := dk_45 (dk_at dksJ10_getChars_4_2 20 rfl rfl)
theorem dJ10_getChars_4_69 : decode cJ10_getChars_4 69 = .ok (.iinc 7 (-1), 3) := dk_132 7 255 (dk_at dksJ10_getChars_4_2 21 rfl rfl)
theorem dJ10_getChars_4_72 : decode cJ10_getChars_4 72 = .ok (.iload 7, 2) := dk_21 7 (dk_at dksJ10_getChars_4_3 0 rfl rfl)
theorem dJ10_getChars_4_74 : decode cJ10_getChars_4 74 = .ok (.getstatic 407, 3) := dk_178 1 151 (dk_at dksJ10_getChars_4_3 2 rfl rfl)
theorem dJ10_getChars_4_77 : decode cJ10_getChars_4 77 = .ok (.iload 6, 2) := dk_21 6 (dk_at dksJ10_getChars_4_3 5 rfl rfl)
theorem dJ10_getChars_4_79 : decode cJ10_getChars_4 79 = .ok (.baload, 1) := dk_51 (dk_at dksJ10_getChars_4_3 7 rfl rfl)
theorem dJ10_getChars_4_80 : decode cJ10_getChars_4 80 = .ok (.invokestatic 111, 3) := dk_184 0 111 (dk_at dksJ10_getChars_4_3 8 rfl rfl)
theorem dJ10_getChars_4_83 : decode cJ10_getChars_4 83 = .ok (.goto (-59), 3) := dk_167 255 197 (dk_at dksJ10_getChars_4_3 11 rfl rfl)
theorem dJ10_getChars_4_86 : decode cJ10_getChars_4 86 = .ok (.lload_n 0, 1) := dk_30 (dk_at dksJ10_getChars_4_3 14 rfl rfl)
theorem dJ10_getChars_4_87 : decode cJ10_getChars_4 87 = .ok (.l2i, 1) := dk_136 (dk_at dksJ10_getChars_4_3 15 rfl rfl)
theorem dJ10_getChars_4_88 : decode cJ10_getChars_4 88 = .ok (.istore 10, 2) := dk_54 10 (dk_at dksJ10_getChars_4_3 16 rfl rfl)
theorem dJ10_getChars_4_90 : decode cJ10_getChars_4 90 = .ok (.iload 10, 2) := dk_21 10 (dk_at dksJ10_getChars_4_3 18 rfl rfl)
theorem dJ10_getChars_4_92 : decode cJ10_getChars_4 92 = .ok (.bipush (-100), 2) := dk_16 156 (dk_at dksJ10_getChars_4_3 20 rfl rfl)
theorem dJ10_getChars_4_94 : decode cJ10_getChars_4 94 = .ok (.if_icmp .gt 57, 3) := dk_163 0 57 (dk_at dksJ10_getChars_4_4 0 rfl rfl)
theorem dJ10_getChars_4_97 : decode cJ10_getChars_4 97 = .ok (.iload 10, 2) := dk_21 10 (dk_at dksJ10_getChars_4_4 3 rfl rfl)
theorem dJ10_getChars_4_99 : decode cJ10_getChars_4 99 = .ok (.bipush 100, 2) := dk_16 100 (dk_at dksJ10_getChars_4_4 5 rfl rfl)
theorem dJ10_getChars_4_101 : decode cJ10_getChars_4 101 = .ok (.idiv, 1) := dk_108 (dk_at dksJ10_getChars_4_4 7 rfl rfl)
theorem dJ10_getChars_4_102 : decode cJ10_getChars_4 102 = .ok (.istore 9, 2) := dk_54 9 (dk_at dksJ10_getChars_4_4 8 rfl rfl)
theorem dJ10_getChars_4_104 : decode cJ10_getChars_4 104 = .ok (.iload 9, 2) := dk_21 9 (dk_at dksJ10_getChars_4_4 10 rfl rfl)
theorem dJ10_getChars_4_106 : decode cJ10_getChars_4 106 = .ok (.bipush 100, 2) := dk_16 100 (dk_at dksJ10_getChars_4_4 12 rfl rfl)
theorem dJ10_getChars_4_108 : decode cJ10_getChars_4 108 = .ok (.imul, 1) := dk_104 (dk_at dksJ10_getChars_4_4 14 rfl rfl)
theorem dJ10_getChars_4_109 : decode cJ10_getChars_4 109 = .ok (.iload 10, 2) := dk_21 10 (dk_at dksJ10_getChars_4_4 15 rfl rfl)
theorem dJ10_getChars_4_111 : decode cJ10_getChars_4 111 = .ok (.isub, 1) := dk_100 (dk_at dksJ10_getChars_4_4 17 rfl rfl)
theorem dJ10_getChars_4_112 : decode cJ10_getChars_4 112 = .ok (.istore 6, 2) := dk_54 6 (dk_at dksJ10_getChars_4_4 18 rfl rfl)
theorem dJ10_getChars_4_114 : decode cJ10_getChars_4 114 = .ok (.iload 9, 2) := dk_21 9 (dk_at dksJ10_getChars_4_4 20 rfl rfl)
theorem dJ10_getChars_4_116 : decode cJ10_getChars_4 116 = .ok (.istore 10, 2) := dk_54 10 (dk_at dksJ10_getChars_4_4 22 rfl rfl)
theorem dJ10_getChars_4_118 : decode cJ10_getChars_4 118 = .ok (.aload_n 3, 1) := dk_45 (dk_at dksJ10_getChars_4_5 0 rfl rfl)
theorem dJ10_getChars_4_119 : decode cJ10_getChars_4 119 = .ok (.iinc 7 (-1), 3) := dk_132 7 255 (dk_at dksJ10_getChars_4_5 1 rfl rfl)
theorem dJ10_getChars_4_122 : decode cJ10_getChars_4 122 = .ok (.iload 7, 2) := dk_21 7 (dk_at dksJ10_getChars_4_5 4 rfl rfl)
theorem dJ10_getChars_4_124 : decode cJ10_getChars_4 124 = .ok (.getstatic 403, 3) := dk_178 1 147 (dk_at dksJ10_getChars_4_5 6 rfl rfl)
theorem dJ10_getChars_4_127 : decode cJ10_getChars_4 127 = .ok (.iload 6, 2) := dk_21 6 (dk_at dksJ10_getChars_4_5 9 rfl rfl)
theorem dJ10_getChars_4_129 : decode cJ10_getChars_4 129 = .ok (.baload, 1) := dk_51 (dk_at dksJ10_getChars_4_5 11 rfl rfl)
theorem dJ10_getChars_4_130 : decode cJ10_getChars_4 130 = .ok (.invokestatic 111, 3) := dk_184 0 111 (dk_at dksJ10_getChars_4_5 12 rfl rfl)
theorem dJ10_getChars_4_133 : decode cJ10_getChars_4 133 = .ok (.aload_n 3, 1) := dk_45 (dk_at dksJ10_getChars_4_5 15 rfl rfl)
theorem dJ10_getChars_4_134 : decode cJ10_getChars_4 134 = .ok (.iinc 7 (-1), 3) := dk_132 7 255 (dk_at dksJ10_getChars_4_5 16 rfl rfl)
theorem dJ10_getChars_4_137 : decode cJ10_getChars_4 137 = .ok (.iload 7, 2) := dk_21 7 (dk_at dksJ10_getChars_4_5 19 rfl rfl)
theorem dJ10_getChars_4_139 : decode cJ10_getChars_4 139 = .ok (.getstatic 407, 3) := dk_178 1 151 (dk_at dksJ10_getChars_4_5 21 rfl rfl)
theorem dJ10_getChars_4_142 : decode cJ10_getChars_4 142 = .ok (.iload 6, 2) := dk_21 6 (dk_at dksJ10_getChars_4_6 0 rfl rfl)
theorem dJ10_getChars_4_144 : decode cJ10_getChars_4 144 = .ok (.baload, 1) := dk_51 (dk_at dksJ10_getChars_4_6 2 rfl rfl)
theorem dJ10_getChars_4_145 : decode cJ10_getChars_4 145 = .ok (.invokestatic 111, 3) := dk_184 0 111 (dk_at dksJ10_getChars_4_6 3 rfl rfl)
theorem dJ10_getChars_4_148 : decode cJ10_getChars_4 148 = .ok (.goto (-58), 3) := dk_167 255 198 (dk_at dksJ10_getChars_4_6 6 rfl rfl)
theorem dJ10_getChars_4_151 : decode cJ10_getChars_4 151 = .ok (.aload_n 3, 1) := dk_45 (dk_at dksJ10_getChars_4_6 9 rfl rfl)
theorem dJ10_getChars_4_152 : decode cJ10_getChars_4 152 = .ok (.iinc 7 (-1), 3) := dk_132 7 255 (dk_at dksJ10_getChars_4_6 10 rfl rfl)
theorem dJ10_getChars_4_155 : decode cJ10_getChars_4 155 = .ok (.iload 7, 2) := dk_21 7 (dk_at dksJ10_getChars_4_6 13 rfl rfl)
theorem dJ10_getChars_4_157 : decode cJ10_getChars_4 157 = .ok (.getstatic 403, 3) := dk_178 1 147 (dk_at dksJ10_getChars_4_6 15 rfl rfl)
theorem dJ10_getChars_4_160 : decode cJ10_getChars_4 160 = .ok (.iload 10, 2) := dk_21 10 (dk_at dksJ10_getChars_4_6 18 rfl rfl)
theorem dJ10_getChars_4_162 : decode cJ10_getChars_4 162 = .ok (.ineg, 1) := dk_116 (dk_at dksJ10_getChars_4_6 20 rfl rfl)
theorem dJ10_getChars_4_163 : decode cJ10_getChars_4 163 = .ok (.baload, 1) := dk_51 (dk_at dksJ10_getChars_4_6 21 rfl rfl)
theorem dJ10_getChars_4_164 : decode cJ10_getChars_4 164 = .ok (.invokestatic 111, 3) := dk_184 0 111 (dk_at dksJ10_getChars_4_7 0 rfl rfl)
theorem dJ10_getChars_4_167 : decode cJ10_getChars_4 167 = .ok (.iload 10, 2) := dk_21 10 (dk_at dksJ10_getChars_4_7 3 rfl rfl)
theorem dJ10_getChars_4_169 : decode cJ10_getChars_4 169 = .ok (.bipush (-9), 2) := dk_16 247 (dk_at dksJ10_getChars_4_7 5 rfl rfl)
theorem dJ10_getChars_4_171 : decode cJ10_getChars_4 171 = .ok (.if_icmp .ge 19, 3) := dk_162 0 19 (dk_at dksJ10_getChars_4_7 7 rfl rfl)
theorem dJ10_getChars_4_174 : decode cJ10_getChars_4 174 = .ok (.aload_n 3, 1) := dk_45 (dk_at dksJ10_getChars_4_7 10 rfl rfl)
theorem dJ10_getChars_4_175 : decode cJ10_getChars_4 175 = .ok (.iinc 7 (-1), 3) := dk_132 7 255 (dk_at dksJ10_getChars_4_7 11 rfl rfl)
theorem dJ10_getChars_4_178 : decode cJ10_getChars_4 178 = .ok (.iload 7, 2) := dk_21 7 (dk_at dksJ10_getChars_4_7 14 rfl rfl)
theorem dJ10_getChars_4_180 : decode cJ10_getChars_4 180 = .ok (.getstatic 407, 3) := dk_178 1 151 (dk_at dksJ10_getChars_4_7 16 rfl rfl)
theorem dJ10_getChars_4_183 : decode cJ10_getChars_4 183 = .ok (.iload 10, 2) := dk_21 10 (dk_at dksJ10_getChars_4_7 19 rfl rfl)
theorem dJ10_getChars_4_185 : decode cJ10_getChars_4 185 = .ok (.ineg, 1) := dk_116 (dk_at dksJ10_getChars_4_7 21 rfl rfl)
theorem dJ10_getChars_4_186 : decode cJ10_getChars_4 186 = .ok (.baload, 1) := dk_51 (dk_at dksJ10_getChars_4_7 22 rfl rfl)
theorem dJ10_getChars_4_187 : decode cJ10_getChars_4 187 = .ok (.invokestatic 111, 3) := dk_184 0 111 (dk_at dksJ10_getChars_4_8 0 rfl rfl)
theorem dJ10_getChars_4_190 : decode cJ10_getChars_4 190 = .ok (.iload 8, 2) := dk_21 8 (dk_at dksJ10_getChars_4_8 3 rfl rfl)
theorem dJ10_getChars_4_192 : decode cJ10_getChars_4 192 = .ok (.ifCond .eq 14, 3) := dk_153 0 14 (dk_at dksJ10_getChars_4_8 5 rfl rfl)
theorem dJ10_getChars_4_195 : decode cJ10_getChars_4 195 = .ok (.aload_n 3, 1) := dk_45 (dk_at dksJ10_getChars_4_8 8 rfl rfl)
theorem dJ10_getChars_4_196 : decode cJ10_getChars_4 196 = .ok (.iinc 7 (-1), 3) := dk_132 7 255 (dk_at dksJ10_getChars_4_8 9 rfl rfl)
theorem dJ10_getChars_4_199 : decode cJ10_getChars_4 199 = .ok (.iload 7, 2) := dk_21 7 (dk_at dksJ10_getChars_4_8 12 rfl rfl)
theorem dJ10_getChars_4_201 : decode cJ10_getChars_4 201 = .ok (.bipush 45, 2) := dk_16 45 (dk_at dksJ10_getChars_4_8 14 rfl rfl)
theorem dJ10_getChars_4_203 : decode cJ10_getChars_4 203 = .ok (.invokestatic 111, 3) := dk_184 0 111 (dk_at dksJ10_getChars_4_8 16 rfl rfl)
theorem dJ10_getChars_4_206 : decode cJ10_getChars_4 206 = .ok (.iload 7, 2) := dk_21 7 (dk_at dksJ10_getChars_4_8 19 rfl rfl)
theorem dJ10_getChars_4_208 : decode cJ10_getChars_4 208 = .ok (.ireturn, 1) := dk_172 (dk_at dksJ10_getChars_4_8 21 rfl rfl)
theorem q141 : (Jvm.Cond.initialized "java/lang/StringUTF16") ∈ lw_all := lw_g (lw_at lw_m1 13 rfl) rfl
theorem q262 : (Jvm.Cond.static ({ cls := "java/lang/StringUTF16", name := "newBytesFor", desc := "(I)[B" } : Jvm.MethodName)) ∈ lw_all := lw_g (lw_at lw_m1 134 rfl) rfl
theorem q263 : (Jvm.Cond.code ({ cls := "java/lang/StringUTF16", name := "newBytesFor", desc := "(I)[B" } : Jvm.MethodName) prog_41_method_2_code (1 : Nat) (Option.some (Jvm.ClassFile.FieldType.array Jvm.ClassFile.FieldType.byte))) ∈ lw_all := lw_g (lw_at lw_m1 135 rfl) rfl
theorem q264 : (Jvm.Cond.methodLink "java/lang/StringUTF16" (11 : Nat) ({ cls := "java/lang/StringUTF16", name := "newBytesLength", desc := "(I)I" } : Jvm.MethodName)) ∈ lw_all := lw_g (lw_at lw_m1 136 rfl) rfl
theorem q265 : (Jvm.Cond.static ({ cls := "java/lang/StringUTF16", name := "newBytesLength", desc := "(I)I" } : Jvm.MethodName)) ∈ lw_all := lw_g (lw_at lw_m1 137 rfl) rfl
theorem q266 : (Jvm.Cond.code ({ cls := "java/lang/StringUTF16", name := "newBytesLength", desc := "(I)I" } : Jvm.MethodName) prog_41_method_3_code (1 : Nat) (Option.some Jvm.ClassFile.FieldType.int)) ∈ lw_all := lw_g (lw_at lw_m1 138 rfl) rfl
theorem q267 : (Jvm.Cond.constant "java/lang/StringUTF16" (20 : Nat) (1073741823 : Int32)) ∈ lw_all := lw_g (lw_at lw_m1 139 rfl) rfl
theorem q336 : (Jvm.Cond.static ({ cls := "java/lang/StringUTF16", name := "putCharsAt", desc := "([BICCCC)I" } : Jvm.MethodName)) ∈ lw_all := lw_g (lw_at lw_m1 208 rfl) rfl
theorem q337 : (Jvm.Cond.code ({ cls := "java/lang/StringUTF16", name := "putCharsAt", desc := "([BICCCC)I" } : Jvm.MethodName) prog_41_method_81_code (7 : Nat) (Option.some Jvm.ClassFile.FieldType.int)) ∈ lw_all := lw_g (lw_at lw_m1 209 rfl) rfl
theorem q338 : (Jvm.Cond.methodLink "java/lang/StringUTF16" (96 : Nat) ({ cls := "java/lang/StringUTF16", name := "checkBoundsBeginEnd", desc := "(II[B)V" } : Jvm.MethodName)) ∈ lw_all := lw_g (lw_at lw_m1 210 rfl) rfl
theorem q339 : (Jvm.Cond.static ({ cls := "java/lang/StringUTF16", name := "checkBoundsBeginEnd", desc := "(II[B)V" } : Jvm.MethodName)) ∈ lw_all := lw_g (lw_at lw_m1 211 rfl) rfl
theorem q340 : (Jvm.Cond.code ({ cls := "java/lang/StringUTF16", name := "checkBoundsBeginEnd", desc := "(II[B)V" } : Jvm.MethodName) prog_41_method_93_code (3 : Nat) (Option.none : Option Jvm.ClassFile.FieldType)) ∈ lw_all := lw_g (lw_at lw_m1 212 rfl) rfl
theorem q341 : (Jvm.Cond.methodLink "java/lang/StringUTF16" (48 : Nat) ({ cls := "java/lang/StringUTF16", name := "length", desc := "([B)I" } : Jvm.MethodName)) ∈ lw_all := lw_g (lw_at lw_m1 213 rfl) rfl
theorem q342 : (Jvm.Cond.static ({ cls := "java/lang/StringUTF16", name := "length", desc := "([B)I" } : Jvm.MethodName)) ∈ lw_all := lw_g (lw_at lw_m1 214 rfl) rfl
theorem q343 : (Jvm.Cond.code ({ cls := "java/lang/StringUTF16", name := "length", desc := "([B)I" } : Jvm.MethodName) prog_41_method_6_code (1 : Nat) (Option.some Jvm.ClassFile.FieldType.int)) ∈ lw_all := lw_g (lw_at lw_m1 215 rfl) rfl
theorem q344 : (Jvm.Cond.methodLink "java/lang/StringUTF16" (241 : Nat) ({ cls := "java/lang/String", name := "checkBoundsBeginEnd", desc := "(III)V" } : Jvm.MethodName)) ∈ lw_all := lw_g (lw_at lw_m1 216 rfl) rfl
theorem q352 : (Jvm.Cond.methodLink "java/lang/StringUTF16" (111 : Nat) ({ cls := "java/lang/StringUTF16", name := "putChar", desc := "([BII)V" } : Jvm.MethodName)) ∈ lw_all := lw_g (lw_at lw_m1 224 rfl) rfl
theorem q353 : (Jvm.Cond.static ({ cls := "java/lang/StringUTF16", name := "putChar", desc := "([BII)V" } : Jvm.MethodName)) ∈ lw_all := lw_g (lw_at lw_m1 225 rfl) rfl
theorem q354 : (Jvm.Cond.code ({ cls := "java/lang/StringUTF16", name := "putChar", desc := "([BII)V" } : Jvm.MethodName) prog_41_method_4_code (3 : Nat) (Option.none : Option Jvm.ClassFile.FieldType)) ∈ lw_all := lw_g (lw_at lw_m1 226 rfl) rfl
theorem q355 : (Jvm.Cond.fieldLink "java/lang/StringUTF16" (44 : Nat) "java/lang/StringUTF16" "$assertionsDisabled" "Z") ∈ lw_all := lw_g (lw_at lw_m1 227 rfl) rfl
theorem q356 : (Jvm.Cond.laysStatic "java/lang/StringUTF16" "$assertionsDisabled" "Z") ∈ lw_tbl := lw_at lw_m1 228 rfl
theorem q357 : (Jvm.Cond.fieldLink "java/lang/StringUTF16" (59 : Nat) "java/lang/StringUTF16" "HI_BYTE_SHIFT" "I") ∈ lw_all := lw_g (lw_at lw_m1 229 rfl) rfl
theorem q358 : (Jvm.Cond.laysStatic "java/lang/StringUTF16" "HI_BYTE_SHIFT" "I") ∈ lw_tbl := lw_at lw_m1 230 rfl
theorem q359 : (Jvm.Cond.fieldLink "java/lang/StringUTF16" (63 : Nat) "java/lang/StringUTF16" "LO_BYTE_SHIFT" "I") ∈ lw_all := lw_g (lw_at lw_m1 231 rfl) rfl
theorem q360 : (Jvm.Cond.laysStatic "java/lang/StringUTF16" "LO_BYTE_SHIFT" "I") ∈ lw_tbl := lw_at lw_m1 232 rfl
theorem q387 : (Jvm.Cond.static ({ cls := "java/lang/StringUTF16", name := "inflate", desc := "([BI[BII)V" } : Jvm.MethodName)) ∈ lw_all := lw_g (lw_at lw_m2 19 rfl) rfl
theorem q388 : (Jvm.Cond.code ({ cls := "java/lang/StringUTF16", name := "inflate", desc := "([BI[BII)V" } : Jvm.MethodName) prog_41_method_86_code (6 : Nat) (Option.none : Option Jvm.ClassFile.FieldType)) ∈ lw_all := lw_g (lw_at lw_m2 20 rfl) rfl
theorem q389 : (Jvm.Cond.methodLink "java/lang/StringUTF16" (173 : Nat) ({ cls := "java/lang/StringUTF16", name := "checkBoundsOffCount", desc := "(II[B)V" } : Jvm.MethodName)) ∈ lw_all := lw_g (lw_at lw_m2 21 rfl) rfl
theorem q390 : (Jvm.Cond.static ({ cls := "java/lang/StringUTF16", name := "checkBoundsOffCount", desc := "(II[B)V" } : Jvm.MethodName)) ∈ lw_all := lw_g (lw_at lw_m2 22 rfl) rfl
theorem q391 : (Jvm.Cond.code ({ cls := "java/lang/StringUTF16", name := "checkBoundsOffCount", desc := "(II[B)V" } : Jvm.MethodName) prog_41_method_94_code (3 : Nat) (Option.none : Option Jvm.ClassFile.FieldType)) ∈ lw_all := lw_g (lw_at lw_m2 23 rfl) rfl
theorem q392 : (Jvm.Cond.methodLink "java/lang/StringUTF16" (419 : Nat) ({ cls := "java/lang/String", name := "checkBoundsOffCount", desc := "(III)I" } : Jvm.MethodName)) ∈ lw_all := lw_g (lw_at lw_m2 24 rfl) rfl
theorem q422 : (Jvm.Cond.static ({ cls := "java/lang/StringUTF16", name := "getChars", desc := "(III[B)I" } : Jvm.MethodName)) ∈ lw_all := lw_g (lw_at lw_m2 54 rfl) rfl
theorem q423 : (Jvm.Cond.code ({ cls := "java/lang/StringUTF16", name := "getChars", desc := "(III[B)I" } : Jvm.MethodName) prog_41_method_77_code (5 : Nat) (Option.some Jvm.ClassFile.FieldType.int)) ∈ lw_all := lw_g (lw_at lw_m2 55 rfl) rfl
theorem q424 : (Jvm.Cond.methodLink "java/lang/StringUTF16" (393 : Nat) ({ cls := "java/lang/StringUTF16", name := "getChars", desc := "(II[B)I" } : Jvm.MethodName)) ∈ lw_all := lw_g (lw_at lw_m2 56 rfl) rfl
theorem q425 : (Jvm.Cond.static ({ cls := "java/lang/StringUTF16", name := "getChars", desc := "(II[B)I" } : Jvm.MethodName)) ∈ lw_all := lw_g (lw_at lw_m2 57 rfl) rfl
theorem q426 : (Jvm.Cond.code ({ cls := "java/lang/StringUTF16", name := "getChars", desc := "(II[B)I" } : Jvm.MethodName) prog_41_method_89_code (7 : Nat) (Option.some Jvm.ClassFile.FieldType.int)) ∈ lw_all := lw_g (lw_at lw_m2 58 rfl) rfl
theorem q427 : (Jvm.Cond.fieldLink "java/lang/StringUTF16" (403 : Nat) "java/lang/Integer" "DigitOnes" "[B") ∈ lw_all := lw_g (lw_at lw_m2 59 rfl) rfl
theorem q428 : (Jvm.Cond.fieldLink "java/lang/StringUTF16" (407 : Nat) "java/lang/Integer" "DigitTens" "[B") ∈ lw_all := lw_g (lw_at lw_m2 60 rfl) rfl
theorem q498 : (Jvm.Cond.static ({ cls := "java/lang/StringUTF16", name := "compress", desc := "([BII)[B" } : Jvm.MethodName)) ∈ lw_all := lw_g (lw_at lw_m2 130 rfl) rfl
theorem q499 : (Jvm.Cond.code ({ cls := "java/lang/StringUTF16", name := "compress", desc := "([BII)[B" } : Jvm.MethodName) prog_41_method_17_code (6 : Nat) (Option.some (Jvm.ClassFile.FieldType.array Jvm.ClassFile.FieldType.byte))) ∈ lw_all := lw_g (lw_at lw_m2 131 rfl) rfl
theorem q500 : (Jvm.Cond.methodLink "java/lang/StringUTF16" (123 : Nat) ({ cls := "java/lang/StringUTF16", name := "compress", desc := "([BI[BII)I" } : Jvm.MethodName)) ∈ lw_all := lw_g (lw_at lw_m2 132 rfl) rfl
theorem q501 : (Jvm.Cond.static ({ cls := "java/lang/StringUTF16", name := "compress", desc := "([BI[BII)I" } : Jvm.MethodName)) ∈ lw_all := lw_g (lw_at lw_m2 133 rfl) rfl
theorem q502 : (Jvm.Cond.code ({ cls := "java/lang/StringUTF16", name := "compress", desc := "([BI[BII)I" } : Jvm.MethodName) prog_41_method_22_code (7 : Nat) (Option.some Jvm.ClassFile.FieldType.int)) ∈ lw_all := lw_g (lw_at lw_m2 134 rfl) rfl
theorem q503 : (Jvm.Cond.methodLink "java/lang/StringUTF16" (71 : Nat) ({ cls := "java/lang/StringUTF16", name := "getChar", desc := "([BI)C" } : Jvm.MethodName)) ∈ lw_all := lw_g (lw_at lw_m2 135 rfl) rfl
theorem q504 : (Jvm.Cond.static ({ cls := "java/lang/StringUTF16", name := "getChar", desc := "([BI)C" } : Jvm.MethodName)) ∈ lw_all := lw_g (lw_at lw_m2 136 rfl) rfl
theorem q505 : (Jvm.Cond.code ({ cls := "java/lang/StringUTF16", name := "getChar", desc := "([BI)C" } : Jvm.MethodName) prog_41_method_5_code (2 : Nat) (Option.some Jvm.ClassFile.FieldType.char)) ∈ lw_all := lw_g (lw_at lw_m2 137 rfl) rfl
theorem q506 : (Jvm.Cond.methodLink "java/lang/StringUTF16" (126 : Nat) ({ cls := "java/util/Arrays", name := "copyOfRange", desc := "([BII)[B" } : Jvm.MethodName)) ∈ lw_all := lw_g (lw_at lw_m2 138 rfl) rfl
theorem q508 : (Jvm.Cond.static ({ cls := "java/lang/StringUTF16", name := "coderFromArrayLen", desc := "([BI)B" } : Jvm.MethodName)) ∈ lw_all := lw_g (lw_at lw_m2 140 rfl) rfl
theorem q509 : (Jvm.Cond.code ({ cls := "java/lang/StringUTF16", name := "coderFromArrayLen", desc := "([BI)B" } : Jvm.MethodName) prog_41_method_15_code (2 : Nat) (Option.some Jvm.ClassFile.FieldType.byte)) ∈ lw_all := lw_g (lw_at lw_m2 141 rfl) rfl
theorem q1132 : (Jvm.Cond.static ({ cls := "java/lang/StringUTF16", name := "putCharSB", desc := "([BII)V" } : Jvm.MethodName)) ∈ lw_all := lw_g (lw_at lw_m5 44 rfl) rfl
theorem q1133 : (Jvm.Cond.code ({ cls := "java/lang/StringUTF16", name := "putCharSB", desc := "([BII)V" } : Jvm.MethodName) prog_41_method_71_code (3 : Nat) (Option.none : Option Jvm.ClassFile.FieldType)) ∈ lw_all := lw_g (lw_at lw_m5 45 rfl) rfl
theorem q1134 : (Jvm.Cond.methodLink "java/lang/StringUTF16" (67 : Nat) ({ cls := "java/lang/StringUTF16", name := "checkIndex", desc := "(I[B)V" } : Jvm.MethodName)) ∈ lw_all := lw_g (lw_at lw_m5 46 rfl) rfl
theorem q1135 : (Jvm.Cond.static ({ cls := "java/lang/StringUTF16", name := "checkIndex", desc := "(I[B)V" } : Jvm.MethodName)) ∈ lw_all := lw_g (lw_at lw_m5 47 rfl) rfl
theorem q1136 : (Jvm.Cond.code ({ cls := "java/lang/StringUTF16", name := "checkIndex", desc := "(I[B)V" } : Jvm.MethodName) prog_41_method_91_code (2 : Nat) (Option.none : Option Jvm.ClassFile.FieldType)) ∈ lw_all := lw_g (lw_at lw_m5 48 rfl) rfl
theorem q1137 : (Jvm.Cond.methodLink "java/lang/StringUTF16" (414 : Nat) ({ cls := "java/lang/String", name := "checkIndex", desc := "(II)V" } : Jvm.MethodName)) ∈ lw_all := lw_g (lw_at lw_m5 49 rfl) rfl
theorem q1268 : (Jvm.Cond.static ({ cls := "java/lang/StringUTF16", name := "contentEquals", desc := "([B[BI)Z" } : Jvm.MethodName)) ∈ lw_all := lw_g (lw_at lw_m5 180 rfl) rfl
theorem q1269 : (Jvm.Cond.code ({ cls := "java/lang/StringUTF16", name := "contentEquals", desc := "([B[BI)Z" } : Jvm.MethodName) prog_41_method_79_code (4 : Nat) (Option.some Jvm.ClassFile.FieldType.boolean)) ∈ lw_all := lw_g (lw_at lw_m5 181 rfl) rfl
theorem q1308 : (Jvm.Cond.static ({ cls := "java/lang/StringUTF16", name := "charAt", desc := "([BI)C" } : Jvm.MethodName)) ∈ lw_all := lw_g (lw_at lw_m5 220 rfl) rfl
theorem q1309 : (Jvm.Cond.code ({ cls := "java/lang/StringUTF16", name := "charAt", desc := "([BI)C" } : Jvm.MethodName) prog_41_method_83_code (2 : Nat) (Option.some Jvm.ClassFile.FieldType.char)) ∈ lw_all := lw_g (lw_at lw_m5 221 rfl) rfl
theorem q1314 : (Jvm.Cond.static ({ cls := "java/lang/StringUTF16", name := "contentEquals", desc := "([BLjava/lang/CharSequence;I)Z" } : Jvm.MethodName)) ∈ lw_all := lw_g (lw_at lw_m5 226 rfl) rfl
theorem q1315 : (Jvm.Cond.code ({ cls := "java/lang/StringUTF16", name := "contentEquals", desc := "([BLjava/lang/CharSequence;I)Z" } : Jvm.MethodName) prog_41_method_80_code (4 : Nat) (Option.some Jvm.ClassFile.FieldType.boolean)) ∈ lw_all := lw_g (lw_at lw_m5 227 rfl) rfl
theorem q1316 : (Jvm.Cond.methodLink "java/lang/StringUTF16" (180 : Nat) ({ cls := "java/lang/StringUTF16", name := "checkOffset", desc := "(I[B)V" } : Jvm.MethodName)) ∈ lw_all := lw_g (lw_at lw_m5 228 rfl) rfl
theorem q1317 : (Jvm.Cond.static ({ cls := "java/lang/StringUTF16", name := "checkOffset", desc := "(I[B)V" } : Jvm.MethodName)) ∈ lw_all := lw_g (lw_at lw_m5 229 rfl) rfl
theorem q1318 : (Jvm.Cond.code ({ cls := "java/lang/StringUTF16", name := "checkOffset", desc := "(I[B)V" } : Jvm.MethodName) prog_41_method_92_code (2 : Nat) (Option.none : Option Jvm.ClassFile.FieldType)) ∈ lw_all := lw_g (lw_at lw_m5 230 rfl) rfl
theorem q1319 : (Jvm.Cond.methodLink "java/lang/StringUTF16" (417 : Nat) ({ cls := "java/lang/String", name := "checkOffset", desc := "(II)V" } : Jvm.MethodName)) ∈ lw_all := lw_g (lw_at lw_m5 231 rfl) rfl
theorem q1322 : (Jvm.Cond.interfaceEntry "java/lang/StringUTF16" (388 : Nat)) ∈ lw_tbl := lw_at lw_m5 234 rfl
theorem q1323 : (Jvm.Cond.methodLink "java/lang/StringUTF16" (388 : Nat) ({ cls := "java/lang/CharSequence", name := "charAt", desc := "(I)C" } : Jvm.MethodName)) ∈ lw_all := lw_g (lw_at lw_m5 235 rfl) rfl
theorem q1499 : (Jvm.Cond.static ({ cls := "java/lang/StringUTF16", name := "hashCode", desc := "([B)I" } : Jvm.MethodName)) ∈ lw_all := lw_g (lw_at lw_m6 171 rfl) rfl
theorem q1500 : (Jvm.Cond.code ({ cls := "java/lang/StringUTF16", name := "hashCode", desc := "([B)I" } : Jvm.MethodName) prog_41_method_39_code (1 : Nat) (Option.some Jvm.ClassFile.FieldType.int)) ∈ lw_all := lw_g (lw_at lw_m6 172 rfl) rfl
theorem q1501 : (Jvm.Cond.methodLink "java/lang/StringUTF16" (220 : Nat) ({ cls := "jdk/internal/util/ArraysSupport", name := "vectorizedHashCode", desc := "(Ljava/lang/Object;IIII)I" } : Jvm.MethodName)) ∈ lw_all := lw_g (lw_at lw_m6 173 rfl) rfl
theorem q2480 : (Jvm.Cond.static ({ cls := "java/lang/StringUTF16", name := "fillNull", desc := "([BII)V" } : Jvm.MethodName)) ∈ lw_all := lw_g (lw_at lw_m10 192 rfl) rfl
theorem q2481 : (Jvm.Cond.code ({ cls := "java/lang/StringUTF16", name := "fillNull", desc := "([BII)V" } : Jvm.MethodName) prog_41_method_70_code (3 : Nat) (Option.none : Option Jvm.ClassFile.FieldType)) ∈ lw_all := lw_g (lw_at lw_m10 193 rfl) rfl
theorem q2482 : (Jvm.Cond.methodLink "java/lang/StringUTF16" (380 : Nat) ({ cls := "java/util/Arrays", name := "fill", desc := "([BIIB)V" } : Jvm.MethodName)) ∈ lw_all := lw_g (lw_at lw_m10 194 rfl) rfl
theorem q2522 : (Jvm.Cond.static ({ cls := "java/lang/StringUTF16", name := "getChars", desc := "(JII[B)I" } : Jvm.MethodName)) ∈ lw_all := lw_g (lw_at lw_m10 234 rfl) rfl
theorem q2523 : (Jvm.Cond.code ({ cls := "java/lang/StringUTF16", name := "getChars", desc := "(JII[B)I" } : Jvm.MethodName) prog_41_method_78_code (6 : Nat) (Option.some Jvm.ClassFile.FieldType.int)) ∈ lw_all := lw_g (lw_at lw_m10 235 rfl) rfl
theorem q2524 : (Jvm.Cond.methodLink "java/lang/StringUTF16" (396 : Nat) ({ cls := "java/lang/StringUTF16", name := "getChars", desc := "(JI[B)I" } : Jvm.MethodName)) ∈ lw_all := lw_g (lw_at lw_m10 236 rfl) rfl
theorem q2525 : (Jvm.Cond.static ({ cls := "java/lang/StringUTF16", name := "getChars", desc := "(JI[B)I" } : Jvm.MethodName)) ∈ lw_all := lw_g (lw_at lw_m10 237 rfl) rfl
theorem q2526 : (Jvm.Cond.code ({ cls := "java/lang/StringUTF16", name := "getChars", desc := "(JI[B)I" } : Jvm.MethodName) prog_41_method_90_code (11 : Nat) (Option.some Jvm.ClassFile.FieldType.int)) ∈ lw_all := lw_g (lw_at lw_m10 238 rfl) rfl
theorem q2527 : (Jvm.Cond.constantLong "java/lang/StringUTF16" (410 : Nat) (-2147483648 : Int64)) ∈ lw_all := lw_g (lw_at lw_m10 239 rfl) rfl
theorem q2528 : (Jvm.Cond.constantLong "java/lang/StringUTF16" (412 : Nat) (100 : Int64)) ∈ lw_all := lw_g (lw_at lw_m11 0 rfl) rfl
/-! jdk/internal/util/ArraysSupport -/
set_option maxRecDepth 100000
def RJ11 : String := "jdk/internal/util/ArraysSupport"
abbrev cJ11_newLength : ByteArray := prog_64_method_27_code
def yJ11_newLength : MethodName := ⟨RJ11, "newLength", "(III)I"⟩
def dkwJ11_newLength_1 : List UInt8 := [184, 0, 201, 172]
abbrev dktJ11_newLength_1 : List UInt8 := dkwJ11_newLength_1 ++ []
def dkwJ11_newLength_0 : List UInt8 := [26, 27, 28, 184, 0, 194, 96, 62, 3, 29, 162, 0, 11, 29, 18, 200, 163, 0, 5, 29, 172, 26, 27]
abbrev dktJ11_newLength_0 : List UInt8 := dkwJ11_newLength_0 ++ dktJ11_newLength_1
theorem dksJ11_newLength_0 : cJ11_newLength.data.toList.drop 0 = dktJ11_newLength_0 := by decide +kernel
theorem dksJ11_newLength_1 : cJ11_newLength.data.toList.drop 23 = dktJ11_newLength_1 := dk_seg dksJ11_newLength_0 23 rfl rfl
theorem dJ11_newLength_0 : decode cJ11_newLength 0 = .ok (.iload_n 0, 1) := dk_26 (dk_at dksJ11_newLength_0 0 rfl rfl)
theorem dJ11_newLength_1 : decode cJ11_newLength 1 = .ok (.iload_n 1, 1) := dk_27 (dk_at dksJ11_newLength_0 1 rfl rfl)
theorem dJ11_newLength_2 : decode cJ11_newLength 2 = .ok (.iload_n 2, 1) := dk_28 (dk_at dksJ11_newLength_0 2 rfl rfl)
theorem dJ11_newLength_3 : decode cJ11_newLength 3 = .ok (.invokestatic 194, 3) := dk_184 0 194 (dk_at dksJ11_newLength_0 3 rfl rfl)
theorem dJ11_newLength_6 : decode cJ11_newLength 6 = .ok (.iadd, 1) := dk_96 (dk_at dksJ11_newLength_0 6 rfl rfl)
theorem dJ11_newLength_7 : decode cJ11_newLength 7 = .ok (.istore_n 3, 1) := dk_62 (dk_at dksJ11_newLength_0 7 rfl rfl)
theorem dJ11_newLength_8 : decode cJ11_newLength 8 = .ok (.iconst 0, 1) := dk_3 (dk_at dksJ11_newLength_0 8 rfl rfl)
theorem dJ11_newLength_9 : decode cJ11_newLength 9 = .ok (.iload_n 3, 1) := dk_29 (dk_at dksJ11_newLength_0 9 rfl rfl)
theorem dJ11_newLength_10 : decode cJ11_newLength 10 = .ok (.if_icmp .ge 11, 3) := dk_162 0 11 (dk_at dksJ11_newLength_0 10 rfl rfl)
theorem dJ11_newLength_13 : decode cJ11_newLength 13 = .ok (.iload_n 3, 1) := dk_29 (dk_at dksJ11_newLength_0 13 rfl rfl)
theorem dJ11_newLength_14 : decode cJ11_newLength 14 = .ok (.ldc 200, 2) := dk_18 200 (dk_at dksJ11_newLength_0 14 rfl rfl)
theorem dJ11_newLength_16 : decode cJ11_newLength 16 = .ok (.if_icmp .gt 5, 3) := dk_163 0 5 (dk_at dksJ11_newLength_0 16 rfl rfl)
theorem dJ11_newLength_19 : decode cJ11_newLength 19 = .ok (.iload_n 3, 1) := dk_29 (dk_at dksJ11_newLength_0 19 rfl rfl)
theorem dJ11_newLength_20 : decode cJ11_newLength 20 = .ok (.ireturn, 1) := dk_172 (dk_at dksJ11_newLength_0 20 rfl rfl)
theorem dJ11_newLength_21 : decode cJ11_newLength 21 = .ok (.iload_n 0, 1) := dk_26 (dk_at dksJ11_newLength_0 21 rfl rfl)
theorem dJ11_newLength_22 : decode cJ11_newLength 22 = .ok (.iload_n 1, 1) := dk_27 (dk_at dksJ11_newLength_0 22 rfl rfl)
theorem dJ11_newLength_23 : decode cJ11_newLength 23 = .ok (.invokestatic 201, 3) := dk_184 0 201 (dk_at dksJ11_newLength_1 0 rfl rfl)
theorem dJ11_newLength_26 : decode cJ11_newLength 26 = .ok (.ireturn, 1) := dk_172 (dk_at dksJ11_newLength_1 3 rfl rfl)
abbrev cJ11_hugeLength : ByteArray := prog_64_method_28_code
def yJ11_hugeLength : MethodName := ⟨RJ11, "hugeLength", "(II)I"⟩
def dkwJ11_hugeLength_2 : List UInt8 := [191, 28, 18, 200, 163, 0, 6, 18, 200, 172, 28, 172]
abbrev dktJ11_hugeLength_2 : List UInt8 := dkwJ11_hugeLength_2 ++ []
def dkwJ11_hugeLength_1 : List UInt8 := [26, 182, 0, 98, 18, 208, 182, 0, 94, 27, 182, 0, 98, 18, 210, 182, 0, 94, 182, 0, 101, 183, 0, 212]
abbrev dktJ11_hugeLength_1 : List UInt8 := dkwJ11_hugeLength_1 ++ dktJ11_hugeLength_2
def dkwJ11_hugeLength_0 : List UInt8 := [26, 27, 96, 61, 28, 156, 0, 44, 187, 0, 204, 89, 187, 0, 89, 89, 183, 0, 91, 18, 206, 182, 0, 94]
abbrev dktJ11_hugeLength_0 : List UInt8 := dkwJ11_hugeLength_0 ++ dktJ11_hugeLength_1
theorem dksJ11_hugeLength_0 : cJ11_hugeLength.data.toList.drop 0 = dktJ11_hugeLength_0 := by decide +kernel
theorem dksJ11_hugeLength_1 : cJ11_hugeLength.data.toList.drop 24 = dktJ11_hugeLength_1 := dk_seg dksJ11_hugeLength_0 24 rfl rfl
theorem dksJ11_hugeLength_2 : cJ11_hugeLength.data.toList.drop 48 = dktJ11_hugeLength_2 := dk_seg dksJ11_hugeLength_1 24 rfl rfl
theorem dJ11_hugeLength_0 : decode cJ11_hugeLength 0 = .ok (.iload_n 0, 1) := dk_26 (dk_at dksJ11_hugeLength_0 0 rfl rfl)
theorem dJ11_hugeLength_1 : decode cJ11_hugeLength 1 = .ok (.iload_n 1, 1) := dk_27 (dk_at dksJ11_hugeLength_0 1 rfl rfl)
theorem dJ11_hugeLength_2 : decode cJ11_hugeLength 2 = .ok (.iadd, 1) := dk_96 (dk_at dksJ11_hugeLength_0 2 rfl rfl)
theorem dJ11_hugeLength_3 : decode cJ11_hugeLength 3 = .ok (.istore_n 2, 1) := dk_61 (dk_at dksJ11_hugeLength_0 3 rfl rfl)
theorem dJ11_hugeLength_4 : decode cJ11_hugeLength 4 = .ok (.iload_n 2, 1) := dk_28 (dk_at dksJ11_hugeLength_0 4 rfl rfl)
theorem dJ11_hugeLength_5 : decode cJ11_hugeLength 5 = .ok (.ifCond .ge 44, 3) := dk_156 0 44 (dk_at dksJ11_hugeLength_0 5 rfl rfl)
theorem dJ11_hugeLength_8 : decode cJ11_hugeLength 8 = .ok (.new 204, 3) := dk_187 0 204 (dk_at dksJ11_hugeLength_0 8 rfl rfl)
theorem dJ11_hugeLength_11 : decode cJ11_hugeLength 11 = .ok (.dup, 1) := dk_89 (dk_at dksJ11_hugeLength_0 11 rfl rfl)
theorem dJ11_hugeLength_12 : decode cJ11_hugeLength 12 = .ok (.new 89, 3) := dk_187 0 89 (dk_at dksJ11_hugeLength_0 12 rfl rfl)
theorem dJ11_hugeLength_15 : decode cJ11_hugeLength 15 = .ok (.dup, 1) := dk_89 (dk_at dksJ11_hugeLength_0 15 rfl rfl)
theorem dJ11_hugeLength_16 : decode cJ11_hugeLength 16 = .ok (.invokespecial 91, 3) := dk_183 0 91 (dk_at dksJ11_hugeLength_0 16 rfl rfl)
theorem dJ11_hugeLength_19 : decode cJ11_hugeLength 19 = .ok (.ldc 206, 2) := dk_18 206 (dk_at dksJ11_hugeLength_0 19 rfl rfl)
theorem dJ11_hugeLength_21 : decode cJ11_hugeLength 21 = .ok (.invokevirtual 94, 3) := dk_182 0 94 (dk_at dksJ11_hugeLength_0 21 rfl rfl)
theorem dJ11_hugeLength_24 : decode cJ11_hugeLength 24 = .ok (.iload_n 0, 1) := dk_26 (dk_at dksJ11_hugeLength_1 0 rfl rfl)
theorem dJ11_hugeLength_25 : decode cJ11_hugeLength 25 = .ok (.invokevirtual 98, 3) := dk_182 0 98 (dk_at dksJ11_hugeLength_1 1 rfl rfl)
theorem dJ11_hugeLength_28 : decode cJ11_hugeLength 28 = .ok (.ldc 208, 2) := dk_18 208 (dk_at dksJ11_hugeLength_1 4 rfl rfl)
theorem dJ11_hugeLength_30 : decode cJ11_hugeLength 30 = .ok (.invokevirtual 94, 3) := dk_182 0 94 (dk_at dksJ11_hugeLength_1 6 rfl rfl)
theorem dJ11_hugeLength_33 : decode cJ11_hugeLength 33 = .ok (.iload_n 1, 1) := dk_27 (dk_at dksJ11_hugeLength_1 9 rfl rfl)
theorem dJ11_hugeLength_34 : decode cJ11_hugeLength 34 = .ok (.invokevirtual 98, 3) := dk_182 0 98 (dk_at dksJ11_hugeLength_1 10 rfl rfl)
theorem dJ11_hugeLength_37 : decode cJ11_hugeLength 37 = .ok (.ldc 210, 2) := dk_18 210 (dk_at dksJ11_hugeLength_1 13 rfl rfl)
theorem dJ11_hugeLength_39 : decode cJ11_hugeLength 39 = .ok (.invokevirtual 94, 3) := dk_182 0 94 (dk_at dksJ11_hugeLength_1 15 rfl rfl)
theorem dJ11_hugeLength_42 : decode cJ11_hugeLength 42 = .ok (.invokevirtual 101, 3) := dk_182 0 101 (dk_at dksJ11_hugeLength_1 18 rfl rfl)
theorem dJ11_hugeLength_45 : decode cJ11_hugeLength 45 = .ok (.invokespecial 212, 3) := dk_183 0 212 (dk_at dksJ11_hugeLength_1 21 rfl rfl)
theorem dJ11_hugeLength_48 : decode cJ11_hugeLength 48 = .ok (.athrow, 1) := dk_191 (dk_at dksJ11_hugeLength_2 0 rfl rfl)
theorem dJ11_hugeLength_49 : decode cJ11_hugeLength 49 = .ok (.iload_n 2, 1) := dk_28 (dk_at dksJ11_hugeLength_2 1 rfl rfl)
theorem dJ11_hugeLength_50 : decode cJ11_hugeLength 50 = .ok (.ldc 200, 2) := dk_18 200 (dk_at dksJ11_hugeLength_2 2 rfl rfl)
theorem dJ11_hugeLength_52 : decode cJ11_hugeLength 52 = .ok (.if_icmp .gt 6, 3) := dk_163 0 6 (dk_at dksJ11_hugeLength_2 4 rfl rfl)
theorem dJ11_hugeLength_55 : decode cJ11_hugeLength 55 = .ok (.ldc 200, 2) := dk_18 200 (dk_at dksJ11_hugeLength_2 7 rfl rfl)
theorem dJ11_hugeLength_57 : decode cJ11_hugeLength 57 = .ok (.ireturn, 1) := dk_172 (dk_at dksJ11_hugeLength_2 9 rfl rfl)
theorem dJ11_hugeLength_58 : decode cJ11_hugeLength 58 = .ok (.iload_n 2, 1) := dk_28 (dk_at dksJ11_hugeLength_2 10 rfl rfl)
theorem dJ11_hugeLength_59 : decode cJ11_hugeLength 59 = .ok (.ireturn, 1) := dk_172 (dk_at dksJ11_hugeLength_2 11 rfl rfl)
abbrev cJ11_mismatch : ByteArray := prog_64_method_13_code
def yJ11_mismatch : MethodName := ⟨RJ11, "mismatch", "([B[BI)I"⟩
def dkwJ11_mismatch_3 : List UInt8 := [172]
abbrev dktJ11_mismatch_3 : List UInt8 := dkwJ11_mismatch_3 ++ []
def dkwJ11_mismatch_2 : List UInt8 := [62, 29, 28, 162, 0, 20, 42, 29, 51, 43, 29, 51, 159, 0, 5, 29, 172, 132, 3, 1, 167, 255, 237, 2]
abbrev dktJ11_mismatch_2 : List UInt8 := dkwJ11_mismatch_2 ++ dktJ11_mismatch_3
def dkwJ11_mismatch_1 : List UInt8 := [43, 178, 0, 126, 133, 28, 178, 0, 129, 184, 0, 122, 62, 29, 155, 0, 5, 29, 172, 28, 29, 2, 130, 100]
abbrev dktJ11_mismatch_1 : List UInt8 := dkwJ11_mismatch_1 ++ dktJ11_mismatch_2
def dkwJ11_mismatch_0 : List UInt8 := [3, 62, 28, 16, 7, 164, 0, 44, 42, 3, 51, 43, 3, 51, 159, 0, 5, 3, 172, 42, 178, 0, 126, 133]
abbrev dktJ11_mismatch_0 : List UInt8 := dkwJ11_mismatch_0 ++ dktJ11_mismatch_1
theorem dksJ11_mismatch_0 : cJ11_mismatch.data.toList.drop 0 = dktJ11_mismatch_0 := by decide +kernel
theorem dksJ11_mismatch_1 : cJ11_mismatch.data.toList.drop 24 = dktJ11_mismatch_1 := dk_seg dksJ11_mismatch_0 24 rfl rfl
theorem dksJ11_mismatch_2 : cJ11_mismatch.data.toList.drop 48 = dktJ11_mismatch_2 := dk_seg dksJ11_mismatch_1 24 rfl rfl
theorem dksJ11_mismatch_3 : cJ11_mismatch.data.toList.drop 72 = dktJ11_mismatch_3 := dk_seg dksJ11_mismatch_2 24 rfl rfl
theorem dJ11_mismatch_0 : decode cJ11_mismatch 0 = .ok (.iconst 0, 1) := dk_3 (dk_at dksJ11_mismatch_0 0 rfl rfl)
theorem dJ11_mismatch_1 : decode cJ11_mismatch 1 = .ok (.istore_n 3, 1) := dk_62 (dk_at dksJ11_mismatch_0 1 rfl rfl)
theorem dJ11_mismatch_2 : decode cJ11_mismatch 2 = .ok (.iload_n 2, 1) := dk_28 (dk_at dksJ11_mismatch_0 2 rfl rfl)
theorem dJ11_mismatch_3 : decode cJ11_mismatch 3 = .ok (.bipush 7, 2) := dk_16 7 (dk_at dksJ11_mismatch_0 3 rfl rfl)
theorem dJ11_mismatch_5 : decode cJ11_mismatch 5 = .ok (.if_icmp .le 44, 3) := dk_164 0 44 (dk_at dksJ11_mismatch_0 5 rfl rfl)
theorem dJ11_mismatch_8 : decode cJ11_mismatch 8 = .ok (.aload_n 0, 1) := dk_42 (dk_at dksJ11_mismatch_0 8 rfl rfl)
theorem dJ11_mismatch_9 : decode cJ11_mismatch 9 = .ok (.iconst 0, 1) := dk_3 (dk_at dksJ11_mismatch_0 9 rfl rfl)
theorem dJ11_mismatch_10 : decode cJ11_mismatch 10 = .ok (.baload, 1) := dk_51 (dk_at dksJ11_mismatch_0 10 rfl rfl)
theorem dJ11_mismatch_11 : decode cJ11_mismatch 11 = .ok (.aload_n 1, 1) := dk_43 (dk_at dksJ11_mismatch_0 11 rfl rfl)
theorem dJ11_mismatch_12 : decode cJ11_mismatch 12 = .ok (.iconst 0, 1) := dk_3 (dk_at dksJ11_mismatch_0 12 rfl rfl)
theorem dJ11_mismatch_13 : decode cJ11_mismatch 13 = .ok (.baload, 1) := dk_51 (dk_at dksJ11_mismatch_0 13 rfl rfl)
theorem dJ11_mismatch_14 : decode cJ11_mismatch 14 = .ok (.if_icmp .eq 5, 3) := dk_159 0 5 (dk_at dksJ11_mismatch_0 14 rfl rfl)
theorem dJ11_mismatch_17 : decode cJ11_mismatch 17 = .ok (.iconst 0, 1) := dk_3 (dk_at dksJ11_mismatch_0 17 rfl rfl)
theorem dJ11_mismatch_18 : decode cJ11_mismatch 18 = .ok (.ireturn, 1) := dk_172 (dk_at dksJ11_mismatch_0 18 rfl rfl)
theorem dJ11_mismatch_19 : decode cJ11_mismatch 19 = .ok (.aload_n 0, 1) := dk_42 (dk_at dksJ11_mismatch_0 19 rfl rfl)
theorem dJ11_mismatch_20 : decode cJ11_mismatch 20 = .ok (.getstatic 126, 3) := dk_178 0 126 (dk_at dksJ11_mismatch_0 20 rfl rfl)
theorem dJ11_mismatch_23 : decode cJ11_mismatch 23 = .ok (.i2l, 1) := dk_133 (dk_at dksJ11_mismatch_0 23 rfl rfl)
theorem dJ11_mismatch_24 : decode cJ11_mismatch 24 = .ok (.aload_n 1, 1) := dk_43 (dk_at dksJ11_mismatch_1 0 rfl rfl)
theorem dJ11_mismatch_25 : decode cJ11_mismatch 25 = .ok (.getstatic 126, 3) := dk_178 0 126 (dk_at dksJ11_mismatch_1 1 rfl rfl)
theorem dJ11_mismatch_28 : decode cJ11_mismatch 28 = .ok (.i2l, 1) := dk_133 (dk_at dksJ11_mismatch_1 4 rfl rfl)
theorem dJ11_mismatch_29 : decode cJ11_mismatch 29 = .ok (.iload_n 2, 1) := dk_28 (dk_at dksJ11_mismatch_1 5 rfl rfl)
theorem dJ11_mismatch_30 : decode cJ11_mismatch 30 = .ok (.getstatic 129, 3) := dk_178 0 129 (dk_at dksJ11_mismatch_1 6 rfl rfl)
theorem dJ11_mismatch_33 : decode cJ11_mismatch 33 = .ok (.invokestatic 122, 3) := dk_184 0 122 (dk_at dksJ11_mismatch_1 9 rfl rfl)
theorem dJ11_mismatch_36 : decode cJ11_mismatch 36 = .ok (.istore_n 3, 1) := dk_62 (dk_at dksJ11_mismatch_1 12 rfl rfl)
theorem dJ11_mismatch_37 : decode cJ11_mismatch 37 = .ok (.iload_n 3, 1) := dk_29 (dk_at dksJ11_mismatch_1 13 rfl rfl)
theorem dJ11_mismatch_38 : decode cJ11_mismatch 38 = .ok (.ifCond .lt 5, 3) := dk_155 0 5 (dk_at dksJ11_mismatch_1 14 rfl rfl)
theorem dJ11_mismatch_41 : decode cJ11_mismatch 41 = .ok (.iload_n 3, 1) := dk_29 (dk_at dksJ11_mismatch_1 17 rfl rfl)
theorem dJ11_mismatch_42 : decode cJ11_mismatch 42 = .ok (.ireturn, 1) := dk_172 (dk_at dksJ11_mismatch_1 18 rfl rfl)
theorem dJ11_mismatch_43 : decode cJ11_mismatch 43 = .ok (.iload_n 2, 1) := dk_28 (dk_at dksJ11_mismatch_1 19 rfl rfl)
theorem dJ11_mismatch_44 : decode cJ11_mismatch 44 = .ok (.iload_n 3, 1) := dk_29 (dk_at dksJ11_mismatch_1 20 rfl rfl)
theorem dJ11_mismatch_45 : decode cJ11_mismatch 45 = .ok (.iconst (-1), 1) := dk_2 (dk_at dksJ11_mismatch_1 21 rfl rfl)
theorem dJ11_mismatch_46 : decode cJ11_mismatch 46 = .ok (.ixor, 1) := dk_130 (dk_at dksJ11_mismatch_1 22 rfl rfl)
theorem dJ11_mismatch_47 : decode cJ11_mismatch 47 = .ok (.isub, 1) := dk_100 (dk_at dksJ11_mismatch_1 23 rfl rfl)
theorem dJ11_mismatch_48 : decode cJ11_mismatch 48 = .ok (.istore_n 3, 1) := dk_62 (dk_at dksJ11_mismatch_2 0 rfl rfl)
theorem dJ11_mismatch_49 : decode cJ11_mismatch 49 = .ok (.iload_n 3, 1) := dk_29 (dk_at dksJ11_mismatch_2 1 rfl rfl)
theorem dJ11_mismatch_50 : decode cJ11_mismatch 50 = .ok (.iload_n 2, 1) := dk_28 (dk_at dksJ11_mismatch_2 2 rfl rfl)
theorem dJ11_mismatch_51 : decode cJ11_mismatch 51 = .ok (.if_icmp .ge 20, 3) := dk_162 0 20 (dk_at dksJ11_mismatch_2 3 rfl rfl)
theorem dJ11_mismatch_54 : decode cJ11_mismatch 54 = .ok (.aload_n 0, 1) := dk_42 (dk_at dksJ11_mismatch_2 6 rfl rfl)
theorem dJ11_mismatch_55 : decode cJ11_mismatch 55 = .ok (.iload_n 3, 1) := dk_29 (dk_at dksJ11_mismatch_2 7 rfl rfl)
theorem dJ11_mismatch_56 : decode cJ11_mismatch 56 = .ok (.baload, 1) := dk_51 (dk_at dksJ11_mismatch_2 8 rfl rfl)
theorem dJ11_mismatch_57 : decode cJ11_mismatch 57 = .ok (.aload_n 1, 1) := dk_43 (dk_at dksJ11_mismatch_2 9 rfl rfl)
theorem dJ11_mismatch_58 : decode cJ11_mismatch 58 = .ok (.iload_n 3, 1) := dk_29 (dk_at dksJ11_mismatch_2 10 rfl rfl)
theorem dJ11_mismatch_59 : decode cJ11_mismatch 59 = .ok (.baload, 1) := dk_51 (dk_at dksJ11_mismatch_2 11 rfl rfl)
theorem dJ11_mismatch_60 : decode cJ11_mismatch 60 = .ok (.if_icmp .eq 5, 3) := dk_159 0 5 (dk_at dksJ11_mismatch_2 12 rfl rfl)
theorem dJ11_mismatch_63 : decode cJ11_mismatch 63 = .ok (.iload_n 3, 1) := dk_29 (dk_at dksJ11_mismatch_2 15 rfl rfl)
theorem dJ11_mismatch_64 : decode cJ11_mismatch 64 = .ok (.ireturn, 1) := dk_172 (dk_at dksJ11_mismatch_2 16 rfl rfl)
theorem dJ11_mismatch_65 : decode cJ11_mismatch 65 = .ok (.iinc 3 1, 3) := dk_132 3 1 (dk_at dksJ11_mismatch_2 17 rfl rfl)
theorem dJ11_mismatch_68 : decode cJ11_mismatch 68 = .ok (.goto (-19), 3) := dk_167 255 237 (dk_at dksJ11_mismatch_2 20 rfl rfl)
theorem dJ11_mismatch_71 : decode cJ11_mismatch 71 = .ok (.iconst (-1), 1) := dk_2 (dk_at dksJ11_mismatch_2 23 rfl rfl)
theorem dJ11_mismatch_72 : decode cJ11_mismatch 72 = .ok (.ireturn, 1) := dk_172 (dk_at dksJ11_mismatch_3 0 rfl rfl)
abbrev cJ11_vectorizedMismatch : ByteArray := prog_64_method_3_code
def yJ11_vectorizedMismatch : MethodName := ⟨RJ11, "vectorizedMismatch", "(Ljava/lang/Object;JLjava/lang/Object;JII)I"⟩
def dkwJ11_vectorizedMismatch_11 : List UInt8 := [54, 10, 21, 10, 2, 130, 172, 21, 10, 2, 130, 172]
abbrev dktJ11_vectorizedMismatch_11 : List UInt8 := dkwJ11_vectorizedMismatch_11 ++ []
def dkwJ11_vectorizedMismatch_10 : List UInt8 := [178, 0, 46, 21, 7, 96, 122, 54, 17, 21, 9, 21, 8, 120, 21, 17, 96, 172, 21, 10, 21, 11, 100]
abbrev dktJ11_vectorizedMismatch_10 : List UInt8 := dkwJ11_vectorizedMismatch_10 ++ dktJ11_vectorizedMismatch_11
def dkwJ11_vectorizedMismatch_9 : List UInt8 := [153, 0, 18, 21, 16, 184, 0, 58, 178, 0, 46, 21, 7, 96, 122, 167, 0, 15, 21, 16, 184, 0, 11]
abbrev dktJ11_vectorizedMismatch_9 : List UInt8 := dkwJ11_vectorizedMismatch_9 ++ dktJ11_vectorizedMismatch_10
def dkwJ11_vectorizedMismatch_8 : List UInt8 := [182, 0, 54, 54, 15, 21, 14, 21, 15, 159, 0, 54, 21, 14, 21, 15, 130, 54, 16, 178, 0, 36]
abbrev dktJ11_vectorizedMismatch_8 : List UInt8 := dkwJ11_vectorizedMismatch_8 ++ dktJ11_vectorizedMismatch_9
def dkwJ11_vectorizedMismatch_7 : List UInt8 := [55, 12, 178, 0, 26, 42, 31, 22, 12, 97, 182, 0, 54, 54, 14, 178, 0, 26, 45, 22, 4, 22, 12, 97]
abbrev dktJ11_vectorizedMismatch_7 : List UInt8 := dkwJ11_vectorizedMismatch_7 ++ dktJ11_vectorizedMismatch_8
def dkwJ11_vectorizedMismatch_6 : List UInt8 := [4, 178, 0, 51, 21, 7, 100, 120, 54, 11, 21, 10, 21, 11, 161, 0, 104, 21, 9, 133, 178, 0, 20, 121]
abbrev dktJ11_vectorizedMismatch_6 : List UInt8 := dkwJ11_vectorizedMismatch_6 ++ dktJ11_vectorizedMismatch_7
def dkwJ11_vectorizedMismatch_5 : List UInt8 := [132, 9, 1, 167, 255, 148, 21, 6, 21, 9, 21, 8, 120, 100, 54, 10, 21, 7, 178, 0, 51, 162, 0, 126]
abbrev dktJ11_vectorizedMismatch_5 : List UInt8 := dkwJ11_vectorizedMismatch_5 ++ dktJ11_vectorizedMismatch_6
def dkwJ11_vectorizedMismatch_4 : List UInt8 := [22, 16, 184, 0, 49, 178, 0, 46, 21, 7, 96, 122, 54, 18, 21, 9, 21, 8, 120, 21, 18, 96, 172]
abbrev dktJ11_vectorizedMismatch_4 : List UInt8 := dkwJ11_vectorizedMismatch_4 ++ dktJ11_vectorizedMismatch_5
def dkwJ11_vectorizedMismatch_3 : List UInt8 := [55, 16, 178, 0, 36, 153, 0, 18, 22, 16, 184, 0, 40, 178, 0, 46, 21, 7, 96, 122, 167, 0, 15]
abbrev dktJ11_vectorizedMismatch_3 : List UInt8 := dkwJ11_vectorizedMismatch_3 ++ dktJ11_vectorizedMismatch_4
def dkwJ11_vectorizedMismatch_2 : List UInt8 := [22, 4, 22, 10, 97, 182, 0, 30, 55, 14, 22, 12, 22, 14, 148, 153, 0, 54, 22, 12, 22, 14, 131]
abbrev dktJ11_vectorizedMismatch_2 : List UInt8 := dkwJ11_vectorizedMismatch_2 ++ dktJ11_vectorizedMismatch_3
def dkwJ11_vectorizedMismatch_1 : List UInt8 := [178, 0, 20, 121, 55, 10, 178, 0, 26, 42, 31, 22, 10, 97, 182, 0, 30, 55, 12, 178, 0, 26, 45]
abbrev dktJ11_vectorizedMismatch_1 : List UInt8 := dkwJ11_vectorizedMismatch_1 ++ dktJ11_vectorizedMismatch_2
def dkwJ11_vectorizedMismatch_0 : List UInt8 := [178, 0, 20, 21, 7, 100, 54, 8, 3, 54, 9, 21, 9, 21, 6, 21, 8, 122, 162, 0, 104, 21, 9, 133]
abbrev dktJ11_vectorizedMismatch_0 : List UInt8 := dkwJ11_vectorizedMismatch_0 ++ dktJ11_vectorizedMismatch_1
theorem dksJ11_vectorizedMismatch_0 : cJ11_vectorizedMismatch.data.toList.drop 0 = dktJ11_vectorizedMismatch_0 := by decide +kernel
theorem dksJ11_vectorizedMismatch_1 : cJ11_vectorizedMismatch.data.toList.drop 24 = dktJ11_vectorizedMismatch_1 := dk_seg dksJ11_vectorizedMismatch_0 24 rfl rfl
theorem dksJ11_vectorizedMismatch_2 : cJ11_vectorizedMismatch.data.toList.drop 47 = dktJ11_vectorizedMismatch_2 := dk_seg dksJ11_vectorizedMismatch_1 23 rfl rfl
theorem dksJ11_vectorizedMismatch_3 : cJ11_vectorizedMismatch.data.toList.drop 70 = dktJ11_vectorizedMismatch_3 := dk_seg dksJ11_vectorizedMismatch_2 23 rfl rfl
theorem dksJ11_vectorizedMismatch_4 : cJ11_vectorizedMismatch.data.toList.drop 93 = dktJ11_vectorizedMismatch_4 := dk_seg dksJ11_vectorizedMismatch_3 23 rfl rfl
theorem dksJ11_vectorizedMismatch_5 : cJ11_vectorizedMismatch.data.toList.drop 116 = dktJ11_vectorizedMismatch_5 := dk_seg dksJ11_vectorizedMismatch_4 23 rfl rfl
theorem dksJ11_vectorizedMismatch_6 : cJ11_vectorizedMismatch.data.toList.drop 140 = dktJ11_vectorizedMismatch_6 := dk_seg dksJ11_vectorizedMismatch_5 24 rfl rfl
theorem dksJ11_vectorizedMismatch_7 : cJ11_vectorizedMismatch.data.toList.drop 164 = dktJ11_vectorizedMismatch_7 := dk_seg dksJ11_vectorizedMismatch_6 24 rfl rfl
theorem dksJ11_vectorizedMismatch_8 : cJ11_vectorizedMismatch.data.toList.drop 188 = dktJ11_vectorizedMismatch_8 := dk_seg dksJ11_vectorizedMismatch_7 24 rfl rfl
theorem dksJ11_vectorizedMismatch_9 : cJ11_vectorizedMismatch.data.toList.drop 210 = dktJ11_vectorizedMismatch_9 := dk_seg dksJ11_vectorizedMismatch_8 22 rfl rfl
theorem dksJ11_vectorizedMismatch_10 : cJ11_vectorizedMismatch.data.toList.drop 233 = dktJ11_vectorizedMismatch_10 := dk_seg dksJ11_vectorizedMismatch_9 23 rfl rfl
theorem dksJ11_vectorizedMismatch_11 : cJ11_vectorizedMismatch.data.toList.drop 256 = dktJ11_vectorizedMismatch_11 := dk_seg dksJ11_vectorizedMismatch_10 23 rfl rfl
theorem dJ11_vectorizedMismatch_0 : decode cJ11_vectorizedMismatch 0 = .ok (.getstatic 20, 3) := dk_178 0 20 (dk_at dksJ11_vectorizedMismatch_0 0 rfl rfl)
theorem dJ11_vectorizedMismatch_3 : decode cJ11_vectorizedMismatch 3 = .ok (.iload 7, 2) := dk_21 7 (dk_at dksJ11_vectorizedMismatch_0 3 rfl rfl)
theorem dJ11_vectorizedMismatch_5 : decode cJ11_vectorizedMismatch 5 = .ok (.isub, 1) := dk_100 (dk_at dksJ11_vectorizedMismatch_0 5 rfl rfl)
theorem dJ11_vectorizedMismatch_6 : decode cJ11_vectorizedMismatch 6 = .ok (.istore 8, 2) := dk_54 8 (dk_at dksJ11_vectorizedMismatch_0 6 rfl rfl)
theorem dJ11_vectorizedMismatch_8 : decode cJ11_vectorizedMismatch 8 = .ok (.iconst 0, 1) := dk_3 (dk_at dksJ11_vectorizedMismatch_0 8 rfl rfl)
theorem dJ11_vectorizedMismatch_9 : decode cJ11_vectorizedMismatch 9 = .ok (.istore 9, 2) := dk_54 9 (dk_at dksJ11_vectorizedMismatch_0 9 rfl rfl)
theorem dJ11_vectorizedMismatch_11 : decode cJ11_vectorizedMismatch 11 = .ok (.iload 9, 2) := dk_21 9 (dk_at dksJ11_vectorizedMismatch_0 11 rfl rfl)
theorem dJ11_vectorizedMismatch_13 : decode cJ11_vectorizedMismatch 13 = .ok (.iload 6, 2) := dk_21 6 (dk_at dksJ11_vectorizedMismatch_0 13 rfl rfl)
theorem dJ11_vectorizedMismatch_15 : decode cJ11_vectorizedMismatch 15 = .ok (.iload 8, 2) := dk_21 8 (dk_at dksJ11_vectorizedMismatch_0 15 rfl rfl)
theorem dJ11_vectorizedMismatch_17 : decode cJ11_vectorizedMismatch 17 = .ok (.ishr, 1) := dk_122 (dk_at dksJ11_vectorizedMismatch_0 17 rfl rfl)
theorem dJ11_vectorizedMismatch_18 : decode cJ11_vectorizedMismatch 18 = .ok (.if_icmp .ge 104, 3) := dk_162 0 104 (dk_at dksJ11_vectorizedMismatch_0 18 rfl rfl)
theorem dJ11_vectorizedMismatch_21 : decode cJ11_vectorizedMismatch 21 = .ok (.iload 9, 2) := dk_21 9 (dk_at dksJ11_vectorizedMismatch_0 21 rfl rfl)
theorem dJ11_vectorizedMismatch_23 : decode cJ11_vectorizedMismatch 23 = .ok (.i2l, 1) := dk_133 (dk_at dksJ11_vectorizedMismatch_0 23 rfl rfl)
theorem dJ11_vectorizedMismatch_24 : decode cJ11_vectorizedMismatch 24 = .ok (.getstatic 20, 3) := dk_178 0 20 (dk_at dksJ11_vectorizedMismatch_1 0 rfl rfl)
theorem dJ11_vectorizedMismatch_27 : decode cJ11_vectorizedMismatch 27 = .ok (.lshl, 1) := dk_121 (dk_at dksJ11_vectorizedMismatch_1 3 rfl rfl)
theorem dJ11_vectorizedMismatch_28 : decode cJ11_vectorizedMismatch 28 = .ok (.lstore 10, 2) := dk_55 10 (dk_at dksJ11_vectorizedMismatch_1 4 rfl rfl)
theorem dJ11_vectorizedMismatch_30 : decode cJ11_vectorizedMismatch 30 = .ok (.getstatic 26, 3) := dk_178 0 26 (dk_at dksJ11_vectorizedMismatch_1 6 rfl rfl)
theorem dJ11_vectorizedMismatch_33 : decode cJ11_vectorizedMismatch 33 = .ok (.aload_n 0, 1) := dk_42 (dk_at dksJ11_vectorizedMismatch_1 9 rfl rfl)
theorem dJ11_vectorizedMismatch_34 : decode cJ11_vectorizedMismatch 34 = .ok (.lload_n 1, 1) := dk_31 (dk_at dksJ11_vectorizedMismatch_1 10 rfl rfl)
theorem dJ11_vectorizedMismatch_35 : decode cJ11_vectorizedMismatch 35 = .ok (.lload 10, 2) := dk_22 10 (dk_at dksJ11_vectorizedMismatch_1 11 rfl rfl)
theorem dJ11_vectorizedMismatch_37 : decode cJ11_vectorizedMismatch 37 = .ok (.ladd, 1) := dk_97 (dk_at dksJ11_vectorizedMismatch_1 13 rfl rfl)
theorem dJ11_vectorizedMismatch_38 : decode cJ11_vectorizedMismatch 38 = .ok (.invokevirtual 30, 3) := dk_182 0 30 (dk_at dksJ11_vectorizedMismatch_1 14 rfl rfl)
theorem dJ11_vectorizedMismatch_41 : decode cJ11_vectorizedMismatch 41 = .ok (.lstore 12, 2) := dk_55 12 (dk_at dksJ11_vectorizedMismatch_1 17 rfl rfl)
theorem dJ11_vectorizedMismatch_43 : decode cJ11_vectorizedMismatch 43 = .ok (.getstatic 26, 3) := dk_178 0 26 (dk_at dksJ11_vectorizedMismatch_1 19 rfl rfl)
theorem dJ11_vectorizedMismatch_46 : decode cJ11_vectorizedMismatch 46 = .ok (.aload_n 3, 1) := dk_45 (dk_at dksJ11_vectorizedMismatch_1 22 rfl rfl)
theorem dJ11_vectorizedMismatch_47 : decode cJ11_vectorizedMismatch 47 = .ok (.lload 4, 2) := dk_22 4 (dk_at dksJ11_vectorizedMismatch_2 0 rfl rfl)
theorem dJ11_vectorizedMismatch_49 : decode cJ11_vectorizedMismatch 49 = .ok (.lload 10, 2) := dk_22 10 (dk_at dksJ11_vectorizedMismatch_2 2 rfl rfl)
theorem dJ11_vectorizedMismatch_51 : decode cJ11_vectorizedMismatch 51 = .ok (.ladd, 1) := dk_97 (dk_at dksJ11_vectorizedMismatch_2 4 rfl rfl)
theorem dJ11_vectorizedMismatch_52 : decode cJ11_vectorizedMismatch 52 = .ok (.invokevirtual 30, 3) := dk_182 0 30 (dk_at dksJ11_vectorizedMismatch_2 5 rfl rfl)
theorem dJ11_vectorizedMismatch_55 : decode cJ11_vectorizedMismatch 55 = .ok (.lstore 14, 2) := dk_55 14 (dk_at dksJ11_vectorizedMismatch_2 8 rfl rfl)
theorem dJ11_vectorizedMismatch_57 : decode cJ11_vectorizedMismatch 57 = .ok (.lload 12, 2) := dk_22 12 (dk_at dksJ11_vectorizedMismatch_2 10 rfl rfl)
theorem dJ11_vectorizedMismatch_59 : decode cJ11_vectorizedMismatch 59 = .ok (.lload 14, 2) := dk_22 14 (dk_at dksJ11_vectorizedMismatch_2 12 rfl rfl)
theorem dJ11_vectorizedMismatch_61 : decode cJ11_vectorizedMismatch 61 = .ok (.lcmp, 1) := dk_148 (dk_at dksJ11_vectorizedMismatch_2 14 rfl rfl)
theorem dJ11_vectorizedMismatch_62 : decode cJ11_vectorizedMismatch 62 = .ok (.ifCond .eq 54, 3) := dk_153 0 54 (dk_at dksJ11_vectorizedMismatch_2 15 rfl rfl)
theorem dJ11_vectorizedMismatch_65 : decode cJ11_vectorizedMismatch 65 = .ok (.lload 12, 2) := dk_22 12 (dk_at dksJ11_vectorizedMismatch_2 18 rfl rfl)
theorem dJ11_vectorizedMismatch_67 : decode cJ11_vectorizedMismatch 67 = .ok (.lload 14, 2) := dk_22 14 (dk_at dksJ11_vectorizedMismatch_2 20 rfl rfl)
theorem dJ11_vectorizedMismatch_69 : decode cJ11_vectorizedMismatch 69 = .ok (.lxor, 1) := dk_131 (dk_at dksJ11_vectorizedMismatch_2 22 rfl rfl)
theorem dJ11_vectorizedMismatch_70 : decode cJ11_vectorizedMismatch 70 = .ok (.lstore 16, 2) := dk_55 16 (dk_at dksJ11_vectorizedMismatch_3 0 rfl rfl)
theorem dJ11_vectorizedMismatch_72 : decode cJ11_vectorizedMismatch 72 = .ok (.getstatic 36, 3) := dk_178 0 36 (dk_at dksJ11_vectorizedMismatch_3 2 rfl rfl)
theorem dJ11_vectorizedMismatch_75 : decode cJ11_vectorizedMismatch 75 = .ok (.ifCond .eq 18, 3) := dk_153 0 18 (dk_at dksJ11_vectorizedMismatch_3 5 rfl rfl)
theorem dJ11_vectorizedMismatch_78 : decode cJ11_vectorizedMismatch 78 = .ok (.lload 16, 2) := dk_22 16 (dk_at dksJ11_vectorizedMismatch_3 8 rfl rfl)
theorem dJ11_vectorizedMismatch_80 : decode cJ11_vectorizedMismatch 80 = .ok (.invokestatic 40, 3) := dk_184 0 40 (dk_at dksJ11_vectorizedMismatch_3 10 rfl rfl)
theorem dJ11_vectorizedMismatch_83 : decode cJ11_vectorizedMismatch 83 = .ok (.getstatic 46, 3) := dk_178 0 46 (dk_at dksJ11_vectorizedMismatch_3 13 rfl rfl)
theorem dJ11_vectorizedMismatch_86 : decode cJ11_vectorizedMismatch 86 = .ok (.iload 7, 2) := dk_21 7 (dk_at dksJ11_vectorizedMismatch_3 16 rfl rfl)
theorem dJ11_vectorizedMismatch_88 : decode cJ11_vectorizedMismatch 88 = .ok (.iadd, 1) := dk_96 (dk_at dksJ11_vectorizedMismatch_3 18 rfl rfl)
theorem dJ11_vectorizedMismatch_89 : decode cJ11_vectorizedMismatch 89 = .ok (.ishr, 1) := dk_122 (dk_at dksJ11_vectorizedMismatch_3 19 rfl rfl)
theorem dJ11_vectorizedMismatch_90 : decode cJ11_vectorizedMismatch 90 = .ok (.goto 15, 3) := dk_167 0 15 (dk_at dksJ11_vectorizedMismatch_3 20 rfl rfl)
theorem dJ11_vectorizedMismatch_93 : decode cJ11_vectorizedMismatch 93 = .ok (.lload 16, 2) := dk_22 16 (dk_at dksJ11_vectorizedMismatch_4 0 rfl rfl)
theorem dJ11_vectorizedMismatch_95 : decode cJ11_vectorizedMismatch 95 = .ok (.invokestatic 49, 3) := dk_184 0 49 (dk_at dksJ11_vectorizedMismatch_4 2 rfl rfl)
theorem dJ11_vectorizedMismatch_98 : decode cJ11_vectorizedMismatch 98 = .ok (.getstatic 46, 3) := dk_178 0 46 (dk_at dksJ11_vectorizedMismatch_4 5 rfl rfl)
theorem dJ11_vectorizedMismatch_101 : decode cJ11_vectorizedMismatch 101 = .ok (.iload 7, 2) := dk_21 7 (dk_at dksJ11_vectorizedMismatch_4 8 rfl rfl)
theorem dJ11_vectorizedMismatch_103 : decode cJ11_vectorizedMismatch 103 = .ok (.iadd, 1) := dk_96 (dk_at dksJ11_vectorizedMismatch_4 10 rfl rfl)
theorem dJ11_vectorizedMismatch_104 : decode cJ11_vectorizedMismatch 104 = .ok (.ishr, 1) := dk_122 (dk_at dksJ11_vectorizedMismatch_4 11 rfl rfl)
theorem dJ11_vectorizedMismatch_105 : decode cJ11_vectorizedMismatch 105 = .ok (.istore 18, 2) := dk_54 18 (dk_at dksJ11_vectorizedMismatch_4 12 rfl rfl)
theorem dJ11_vectorizedMismatch_107 : decode cJ11_vectorizedMismatch 107 = .ok (.iload 9, 2) := dk_21 9 (dk_at dksJ11_vectorizedMismatch_4 14 rfl rfl)
theorem dJ11_vectorizedMismatch_109 : decode cJ11_vectorizedMismatch 109 = .ok (.iload 8, 2) := dk_21 8 (dk_at dksJ11_vectorizedMismatch_4 16 rfl rfl)
theorem dJ11_vectorizedMismatch_111 : decode cJ11_vectorizedMismatch 111 = .ok (.ishl, 1) := dk_120 (dk_at dksJ11_vectorizedMismatch_4 18 rfl rfl)
theorem dJ11_vectorizedMismatch_112 : decode cJ11_vectorizedMismatch 112 = .ok (.iload 18, 2) := dk_21 18 (dk_at dksJ11_vectorizedMismatch_4 19 rfl rfl)
theorem dJ11_vectorizedMismatch_114 : decode cJ11_vectorizedMismatch 114 = .ok (.iadd, 1) := dk_96 (dk_at dksJ11_vectorizedMismatch_4 21 rfl rfl)
theorem dJ11_vectorizedMismatch_115 : decode cJ11_vectorizedMismatch 115 = .ok (.ireturn, 1) := dk_172 (dk_at dksJ11_vectorizedMismatch_4 22 rfl rfl)
theorem dJ11_vectorizedMismatch_116 : decode cJ11_vectorizedMismatch 116 = .ok (.iinc 9 1, 3) := dk_132 9 1 (dk_at dksJ11_vectorizedMismatch_5 0 rfl rfl)
theorem dJ11_vectorizedMismatch_119 : decode cJ11_vectorizedMismatch 119 = .ok (.goto (-108), 3) := dk_167 255 148 (dk_at dksJ11_vectorizedMismatch_5 3 rfl rfl)
theorem dJ11_vectorizedMismatch_122 : decode cJ11_vectorizedMismatch 122 = .ok (.iload 6, 2) := dk_21 6 (dk_at dksJ11_vectorizedMismatch_5 6 rfl rfl)
theorem dJ11_vectorizedMismatch_124 : decode cJ11_vectorizedMismatch 124 = .ok (.iload 9, 2) := dk_21 9 (dk_at dksJ11_vectorizedMismatch_5 8 rfl rfl)
theorem dJ11_vectorizedMismatch_126 : decode cJ11_vectorizedMismatch 126 = .ok (.iload 8, 2) := dk_21 8 (dk_at dksJ11_vectorizedMismatch_5 10 rfl rfl)
theorem dJ11_vectorizedMismatch_128 : decode cJ11_vectorizedMismatch 128 = .ok (.ishl, 1) := dk_120 (dk_at dksJ11_vectorizedMismatch_5 12 rfl rfl)
theorem dJ11_vectorizedMismatch_129 : decode cJ11_vectorizedMismatch 129 = .ok (.isub, 1) := dk_100 (dk_at dksJ11_vectorizedMismatch_5 13 rfl rfl)
theorem dJ11_vectorizedMismatch_130 : decode cJ11_vectorizedMismatch 130 = .ok (.istore 10, 2) := dk_54 10 (dk_at dksJ11_vectorizedMismatch_5 14 rfl rfl)
theorem dJ11_vectorizedMismatch_132 : decode cJ11_vectorizedMismatch 132 = .ok (.iload 7, 2) := dk_21 7 (dk_at dksJ11_vectorizedMismatch_5 16 rfl rfl)
theorem dJ11_vectorizedMismatch_134 : decode cJ11_vectorizedMismatch 134 = .ok (.getstatic 51, 3) := dk_178 0 51 (dk_at dksJ11_vectorizedMismatch_5 18 rfl rfl)
theorem dJ11_vectorizedMismatch_137 : decode cJ11_vectorizedMismatch 137 = .ok (.if_icmp .ge 126, 3) := dk_162 0 126 (dk_at dksJ11_vectorizedMismatch_5 21 rfl rfl)
theorem dJ11_vectorizedMismatch_140 : decode cJ11_vectorizedMismatch 140 = .ok (.iconst 1, 1) := dk_4 (dk_at dksJ11_vectorizedMismatch_6 0 rfl rfl)
theorem dJ11_vectorizedMismatch_141 : decode cJ11_vectorizedMismatch 141 = .ok (.getstatic 51, 3) := dk_178 0 51 (dk_at dksJ11_vectorizedMismatch_6 1 rfl rfl)
theorem dJ11_vectorizedMismatch_144 : decode cJ11_vectorizedMismatch 144 = .ok (.iload 7, 2) := dk_21 7 (dk_at dksJ11_vectorizedMismatch_6 4 rfl rfl)
theorem dJ11_vectorizedMismatch_146 : decode cJ11_vectorizedMismatch 146 = .ok (.isub, 1) := dk_100 (dk_at dksJ11_vectorizedMismatch_6 6 rfl rfl)
theorem dJ11_vectorizedMismatch_147 : decode cJ11_vectorizedMismatch 147 = .ok (.ishl, 1) := dk_120 (dk_at dksJ11_vectorizedMismatch_6 7 rfl rfl)
theorem dJ11_vectorizedMismatch_148 : decode cJ11_vectorizedMismatch 148 = .ok (.istore 11, 2) := dk_54 11 (dk_at dksJ11_vectorizedMismatch_6 8 rfl rfl)
theorem dJ11_vectorizedMismatch_150 : decode cJ11_vectorizedMismatch 150 = .ok (.iload 10, 2) := dk_21 10 (dk_at dksJ11_vectorizedMismatch_6 10 rfl rfl)
theorem dJ11_vectorizedMismatch_152 : decode cJ11_vectorizedMismatch 152 = .ok (.iload 11, 2) := dk_21 11 (dk_at dksJ11_vectorizedMismatch_6 12 rfl rfl)
theorem dJ11_vectorizedMismatch_154 : decode cJ11_vectorizedMismatch 154 = .ok (.if_icmp .lt 104, 3) := dk_161 0 104 (dk_at dksJ11_vectorizedMismatch_6 14 rfl rfl)
theorem dJ11_vectorizedMismatch_157 : decode cJ11_vectorizedMismatch 157 = .ok (.iload 9, 2) := dk_21 9 (dk_at dksJ11_vectorizedMismatch_6 17 rfl rfl)
theorem dJ11_vectorizedMismatch_159 : decode cJ11_vectorizedMismatch 159 = .ok (.i2l, 1) := dk_133 (dk_at dksJ11_vectorizedMismatch_6 19 rfl rfl)
theorem dJ11_vectorizedMismatch_160 : decode cJ11_vectorizedMismatch 160 = .ok (.getstatic 20, 3) := dk_178 0 20 (dk_at dksJ11_vectorizedMismatch_6 20 rfl rfl)
theorem dJ11_vectorizedMismatch_163 : decode cJ11_vectorizedMismatch 163 = .ok (.lshl, 1) := dk_121 (dk_at dksJ11_vectorizedMismatch_6 23 rfl rfl)
theorem dJ11_vectorizedMismatch_164 : decode cJ11_vectorizedMismatch 164 = .ok (.lstore 12, 2) := dk_55 12 (dk_at dksJ11_vectorizedMismatch_7 0 rfl rfl)
theorem dJ11_vectorizedMismatch_166 : decode cJ11_vectorizedMismatch 166 = .ok (.getstatic 26, 3) := dk_178 0 26 (dk_at dksJ11_vectorizedMismatch_7 2 rfl rfl)
theorem dJ11_vectorizedMismatch_169 : decode cJ11_vectorizedMismatch 169 = .ok (.aload_n 0, 1) := dk_42 (dk_at dksJ11_vectorizedMismatch_7 5 rfl rfl)
theorem dJ11_vectorizedMismatch_170 : decode cJ11_vectorizedMismatch 170 = .ok (.lload_n 1, 1) := dk_31 (dk_at dksJ11_vectorizedMismatch_7 6 rfl rfl)
theorem dJ11_vectorizedMismatch_171 : decode cJ11_vectorizedMismatch 171 = .ok (.lload 12, 2) := dk_22 12 (dk_at dksJ11_vectorizedMismatch_7 7 rfl rfl)
theorem dJ11_vectorizedMismatch_173 : decode cJ11_vectorizedMismatch 173 = .ok (.ladd, 1) := dk_97 (dk_at dksJ11_vectorizedMismatch_7 9 rfl rfl)
theorem dJ11_vectorizedMismatch_174 : decode cJ11_vectorizedMismatch 174 = .ok (.invokevirtual 54, 3) := dk_182 0 54 (dk_at dksJ11_vectorizedMismatch_7 10 rfl rfl)
theorem dJ11_vectorizedMismatch_177 : decode cJ11_vectorizedMismatch 177 = .ok (.istore 14, 2) := dk_54 14 (dk_at dksJ11_vectorizedMismatch_7 13 rfl rfl)
theorem dJ11_vectorizedMismatch_179 : decode cJ11_vectorizedMismatch 179 = .ok (.getstatic 26, 3) := dk_178 0 26 (dk_at dksJ11_vectorizedMismatch_7 15 rfl rfl)
theorem dJ11_vectorizedMismatch_182 : decode cJ11_vectorizedMismatch 182 = .ok (.aload_n 3, 1) := dk_45 (dk_at dksJ11_vectorizedMismatch_7 18 rfl rfl)
theorem dJ11_vectorizedMismatch_183 : decode cJ11_vectorizedMismatch 183 = .ok (.lload 4, 2) := dk_22 4 (dk_at dksJ11_vectorizedMismatch_7 19 rfl rfl)
theorem dJ11_vectorizedMismatch_185 : decode cJ11_vectorizedMismatch 185 = .ok (.lload 12, 2) := dk_22 12 (dk_at dksJ11_vectorizedMismatch_7 21 rfl rfl)
theorem dJ11_vectorizedMismatch_187 : decode cJ11_vectorizedMismatch 187 = .ok (.ladd, 1) := dk_97 (dk_at dksJ11_vectorizedMismatch_7 23 rfl rfl)
theorem dJ11_vectorizedMismatch_188 : decode cJ11_vectorizedMismatch 188 = .ok (.invokevirtual 54, 3) := dk_182 0 54 (dk_at dksJ11_vectorizedMismatch_8 0 rfl rfl)
theorem dJ11_vectorizedMismatch_191 : decode cJ11_vectorizedMismatch 191 = .ok (.istore 15, 2) := dk_54 15 (dk_at dksJ11_vectorizedMismatch_8 3 rfl rfl)
theorem dJ11_vectorizedMismatch_193 : decode cJ11_vectorizedMismatch 193 = .ok (.iload 14, 2) := dk_21 14 (dk_at dksJ11_vectorizedMismatch_8 5 rfl rfl)
theorem dJ11_vectorizedMismatch_195 : decode cJ11_vectorizedMismatch 195 = .ok (.iload 15, 2) := dk_21 15 (dk_at dksJ11_vectorizedMismatch_8 7 rfl rfl)
theorem dJ11_vectorizedMismatch_197 : decode cJ11_vectorizedMismatch 197 = .ok (.if_icmp .eq 54, 3) := dk_159 0 54 (dk_at dksJ11_vectorizedMismatch_8 9 rfl rfl)
theorem dJ11_vectorizedMismatch_200 : decode cJ11_vectorizedMismatch 200 = .ok (.iload 14, 2) := dk_21 14 (dk_at dksJ11_vectorizedMismatch_8 12 rfl rfl)
theorem dJ11_vectorizedMismatch_202 : decode cJ11_vectorizedMismatch 202 = .ok (.iload 15, 2) := dk_21 15 (dk_at dksJ11_vectorizedMismatch_8 14 rfl rfl)
theorem dJ11_vectorizedMismatch_204 : decode cJ11_vectorizedMismatch 204 = .ok (.ixor, 1) := dk_130 (dk_at dksJ11_vectorizedMismatch_8 16 rfl rfl)
theorem dJ11_vectorizedMismatch_205 : decode cJ11_vectorizedMismatch 205 = .ok (.istore 16, 2) := dk_54 16 (dk_at dksJ11_vectorizedMismatch_8 17 rfl rfl)
theorem dJ11_vectorizedMismatch_207 : decode cJ11_vectorizedMismatch 207 = .ok (.getstatic 36, 3) := dk_178 0 36 (dk_at dksJ11_vectorizedMismatch_8 19 rfl rfl)
theorem dJ11_vectorizedMismatch_210 : decode cJ11_vectorizedMismatch 210 = .ok (.ifCond .eq 18, 3) := dk_153 0 18 (dk_at dksJ11_vectorizedMismatch_9 0 rfl rfl)
theorem dJ11_vectorizedMismatch_213 : decode cJ11_vectorizedMismatch 213 = .ok (.iload 16, 2) := dk_21 16 (dk_at dksJ11_vectorizedMismatch_9 3 rfl rfl)
theorem dJ11_vectorizedMismatch_215 : decode cJ11_vectorizedMismatch 215 = .ok (.invokestatic 58, 3) := dk_184 0 58 (dk_at dksJ11_vectorizedMismatch_9 5 rfl rfl)
theorem dJ11_vectorizedMismatch_218 : decode cJ11_vectorizedMismatch 218 = .ok (.getstatic 46, 3) := dk_178 0 46 (dk_at dksJ11_vectorizedMismatch_9 8 rfl rfl)
theorem dJ11_vectorizedMismatch_221 : decode cJ11_vectorizedMismatch 221 = .ok (.iload 7, 2) := dk_21 7 (dk_at dksJ11_vectorizedMismatch_9 11 rfl rfl)
theorem dJ11_vectorizedMismatch_223 : decode cJ11_vectorizedMismatch 223 = .ok (.iadd, 1) := dk_96 (dk_at dksJ11_vectorizedMismatch_9 13 rfl rfl)
theorem dJ11_vectorizedMismatch_224 : decode cJ11_vectorizedMismatch 224 = .ok (.ishr, 1) := dk_122 (dk_at dksJ11_vectorizedMismatch_9 14 rfl rfl)
theorem dJ11_vectorizedMismatch_225 : decode cJ11_vectorizedMismatch 225 = .ok (.goto 15, 3) := dk_167 0 15 (dk_at dksJ11_vectorizedMismatch_9 15 rfl rfl)
theorem dJ11_vectorizedMismatch_228 : decode cJ11_vectorizedMismatch 228 = .ok (.iload 16, 2) := dk_21 16 (dk_at dksJ11_vectorizedMismatch_9 18 rfl rfl)
theorem dJ11_vectorizedMismatch_230 : decode cJ11_vectorizedMismatch 230 = .ok (.invokestatic 11, 3) := dk_184 0 11 (dk_at dksJ11_vectorizedMismatch_9 20 rfl rfl)
theorem dJ11_vectorizedMismatch_233 : decode cJ11_vectorizedMismatch 233 = .ok (.getstatic 46, 3) := dk_178 0 46 (dk_at dksJ11_vectorizedMismatch_10 0 rfl rfl)
theorem dJ11_vectorizedMismatch_236 : decode cJ11_vectorizedMismatch 236 = .ok (.iload 7, 2) := dk_21 7 (dk_at dksJ11_vectorizedMismatch_10 3 rfl rfl)
theorem dJ11_vectorizedMismatch_238 : decode cJ11_vectorizedMismatch 238 = .ok (.iadd, 1) := dk_96 (dk_at dksJ11_vectorizedMismatch_10 5 rfl rfl)
theorem dJ11_vectorizedMismatch_239 : decode cJ11_vectorizedMismatch 239 = .ok (.ishr, 1) := dk_122 (dk_at dksJ11_vectorizedMismatch_10 6 rfl rfl)
theorem dJ11_vectorizedMismatch_240 : decode cJ11_vectorizedMismatch 240 = .ok (.istore 17, 2) := dk_54 17 (dk_at dksJ11_vectorizedMismatch_10 7 rfl rfl)
theorem dJ11_vectorizedMismatch_242 : decode cJ11_vectorizedMismatch 242 = .ok (.iload 9, 2) := dk_21 9 (dk_at dksJ11_vectorizedMismatch_10 9 rfl rfl)
theorem dJ11_vectorizedMismatch_244 : decode cJ11_vectorizedMismatch 244 = .ok (.iload 8, 2) := dk_21 8 (dk_at dksJ11_vectorizedMismatch_10 11 rfl rfl)
theorem dJ11_vectorizedMismatch_246 : decode cJ11_vectorizedMismatch 246 = .ok (.ishl, 1) := dk_120 (dk_at dksJ11_vectorizedMismatch_10 13 rfl rfl)
theorem dJ11_vectorizedMismatch_247 : decode cJ11_vectorizedMismatch 247 = .ok (.iload 17, 2) := dk_21 17 (dk_at dksJ11_vectorizedMismatch_10 14 rfl rfl)
theorem dJ11_vectorizedMismatch_249 : decode cJ11_vectorizedMismatch 249 = .ok (.iadd, 1) := dk_96 (dk_at dksJ11_vectorizedMismatch_10 16 rfl rfl)
theorem dJ11_vectorizedMismatch_250 : decode cJ11_vectorizedMismatch 250 = .ok (.ireturn, 1) := dk_172 (dk_at dksJ11_vectorizedMismatch_10 17 rfl rfl)
theorem dJ11_vectorizedMismatch_251 : decode cJ11_vectorizedMismatch 251 = .ok (.iload 10, 2) := dk_21 10 (dk_at dksJ11_vectorizedMismatch_10 18 rfl rfl)
theorem dJ11_vectorizedMismatch_253 : decode cJ11_vectorizedMismatch 253 = .ok (.iload 11, 2) := dk_21 11 (dk_at dksJ11_vectorizedMismatch_10 20 rfl rfl)
theorem dJ11_vectorizedMismatch_255 : decode cJ11_vectorizedMismatch 255 = .ok (.isub, 1) := dk_100 (dk_at dksJ11_vectorizedMismatch_10 22 rfl rfl)
theorem dJ11_vectorizedMismatch_256 : decode cJ11_vectorizedMismatch 256 = .ok (.istore 10, 2) := dk_54 10 (dk_at dksJ11_vectorizedMismatch_11 0 rfl rfl)
theorem dJ11_vectorizedMismatch_258 : decode cJ11_vectorizedMismatch 258 = .ok (.iload 10, 2) := dk_21 10 (dk_at dksJ11_vectorizedMismatch_11 2 rfl rfl)
theorem dJ11_vectorizedMismatch_260 : decode cJ11_vectorizedMismatch 260 = .ok (.iconst (-1), 1) := dk_2 (dk_at dksJ11_vectorizedMismatch_11 4 rfl rfl)
theorem dJ11_vectorizedMismatch_261 : decode cJ11_vectorizedMismatch 261 = .ok (.ixor, 1) := dk_130 (dk_at dksJ11_vectorizedMismatch_11 5 rfl rfl)
theorem dJ11_vectorizedMismatch_262 : decode cJ11_vectorizedMismatch 262 = .ok (.ireturn, 1) := dk_172 (dk_at dksJ11_vectorizedMismatch_11 6 rfl rfl)
theorem dJ11_vectorizedMismatch_263 : decode cJ11_vectorizedMismatch 263 = .ok (.iload 10, 2) := dk_21 10 (dk_at dksJ11_vectorizedMismatch_11 7 rfl rfl)
theorem dJ11_vectorizedMismatch_265 : decode cJ11_vectorizedMismatch 265 = .ok (.iconst (-1), 1) := dk_2 (dk_at dksJ11_vectorizedMismatch_11 9 rfl rfl)
theorem dJ11_vectorizedMismatch_266 : decode cJ11_vectorizedMismatch 266 = .ok (.ixor, 1) := dk_130 (dk_at dksJ11_vectorizedMismatch_11 10 rfl rfl)
theorem dJ11_vectorizedMismatch_267 : decode cJ11_vectorizedMismatch 267 = .ok (.ireturn, 1) := dk_172 (dk_at dksJ11_vectorizedMismatch_11 11 rfl rfl)
abbrev cJ11_vectorizedHashCode : ByteArray := prog_64_method_4_code
def yJ11_vectorizedHashCode : MethodName := ⟨RJ11, "vectorizedHashCode", "(Ljava/lang/Object;IIII)I"⟩
def dkwJ11_vectorizedHashCode_6 : List UInt8 := [183, 0, 91, 18, 92, 182, 0, 94, 21, 4, 182, 0, 98, 182, 0, 101, 183, 0, 105, 191, 172]
abbrev dktJ11_vectorizedHashCode_6 : List UInt8 := dkwJ11_vectorizedHashCode_6 ++ []
def dkwJ11_vectorizedHashCode_5 : List UInt8 := [167, 0, 44, 29, 42, 192, 0, 82, 27, 28, 184, 0, 84, 167, 0, 31, 187, 0, 87, 89, 187, 0, 89, 89]
abbrev dktJ11_vectorizedHashCode_5 : List UInt8 := dkwJ11_vectorizedHashCode_5 ++ dktJ11_vectorizedHashCode_6
def dkwJ11_vectorizedHashCode_4 : List UInt8 := [29, 42, 192, 0, 60, 27, 28, 184, 0, 75, 167, 0, 57, 29, 42, 192, 0, 77, 27, 28, 184, 0, 79]
abbrev dktJ11_vectorizedHashCode_4 : List UInt8 := dkwJ11_vectorizedHashCode_4 ++ dktJ11_vectorizedHashCode_5
def dkwJ11_vectorizedHashCode_3 : List UInt8 := [192, 0, 60, 27, 28, 184, 0, 66, 167, 0, 83, 29, 42, 192, 0, 69, 27, 28, 184, 0, 71, 167, 0, 70]
abbrev dktJ11_vectorizedHashCode_3 : List UInt8 := dkwJ11_vectorizedHashCode_3 ++ dktJ11_vectorizedHashCode_4
def dkwJ11_vectorizedHashCode_2 : List UInt8 := [29, 42, 192, 0, 60, 27, 28, 184, 0, 62, 167, 0, 103, 42, 193, 0, 60, 153, 0, 16, 29, 42]
abbrev dktJ11_vectorizedHashCode_2 : List UInt8 := dkwJ11_vectorizedHashCode_2 ++ dktJ11_vectorizedHashCode_3
def dkwJ11_vectorizedHashCode_1 : List UInt8 := [170, 0, 0, 0, 0, 127, 0, 0, 0, 4, 0, 0, 0, 10, 0, 0, 0, 42, 0, 0, 0, 55, 0, 0, 0, 127, 0, 0, 0, 127, 0, 0, 0, 88, 0, 0, 0, 101, 0, 0, 0, 114]
abbrev dktJ11_vectorizedHashCode_1 : List UInt8 := dkwJ11_vectorizedHashCode_1 ++ dktJ11_vectorizedHashCode_2
def dkwJ11_vectorizedHashCode_0 : List UInt8 := [21, 4]
abbrev dktJ11_vectorizedHashCode_0 : List UInt8 := dkwJ11_vectorizedHashCode_0 ++ dktJ11_vectorizedHashCode_1
theorem dksJ11_vectorizedHashCode_0 : cJ11_vectorizedHashCode.data.toList.drop 0 = dktJ11_vectorizedHashCode_0 := by decide +kernel
theorem dksJ11_vectorizedHashCode_1 : cJ11_vectorizedHashCode.data.toList.drop 2 = dktJ11_vectorizedHashCode_1 := dk_seg dksJ11_vectorizedHashCode_0 2 rfl rfl
theorem dksJ11_vectorizedHashCode_2 : cJ11_vectorizedHashCode.data.toList.drop 44 = dktJ11_vectorizedHashCode_2 := dk_seg dksJ11_vectorizedHashCode_1 42 rfl rfl
theorem dksJ11_vectorizedHashCode_3 : cJ11_vectorizedHashCode.data.toList.drop 66 = dktJ11_vectorizedHashCode_3 := dk_seg dksJ11_vectorizedHashCode_2 22 rfl rfl
theorem dksJ11_vectorizedHashCode_4 : cJ11_vectorizedHashCode.data.toList.drop 90 = dktJ11_vectorizedHashCode_4 := dk_seg dksJ11_vectorizedHashCode_3 24 rfl rfl
theorem dksJ11_vectorizedHashCode_5 : cJ11_vectorizedHashCode.data.toList.drop 113 = dktJ11_vectorizedHashCode_5 := dk_seg dksJ11_vectorizedHashCode_4 23 rfl rfl
theorem dksJ11_vectorizedHashCode_6 : cJ11_vectorizedHashCode.data.toList.drop 137 = dktJ11_vectorizedHashCode_6 := dk_seg dksJ11_vectorizedHashCode_5 24 rfl rfl
theorem dJ11_vectorizedHashCode_0 : decode cJ11_vectorizedHashCode 0 = .ok (.iload 4, 2) := dk_21 4 (dk_at dksJ11_vectorizedHashCode_0 0 rfl rfl)
theorem dJ11_vectorizedHashCode_2 : decode cJ11_vectorizedHashCode 2 = .ok (.tableswitch 127 4 10 #[42, 55, 127, 127, 88, 101, 114], 42) := by decide +kernel
theorem dJ11_vectorizedHashCode_44 : decode cJ11_vectorizedHashCode 44 = .ok (.iload_n 3, 1) := dk_29 (dk_at dksJ11_vectorizedHashCode_2 0 rfl rfl)
theorem dJ11_vectorizedHashCode_45 : decode cJ11_vectorizedHashCode 45 = .ok (.aload_n 0, 1) := dk_42 (dk_at dksJ11_vectorizedHashCode_2 1 rfl rfl)
theorem dJ11_vectorizedHashCode_46 : decode cJ11_vectorizedHashCode 46 = .ok (.checkcast 60, 3) := dk_192 0 60 (dk_at dksJ11_vectorizedHashCode_2 2 rfl rfl)
theorem dJ11_vectorizedHashCode_49 : decode cJ11_vectorizedHashCode 49 = .ok (.iload_n 1, 1) := dk_27 (dk_at dksJ11_vectorizedHashCode_2 5 rfl rfl)
theorem dJ11_vectorizedHashCode_50 : decode cJ11_vectorizedHashCode 50 = .ok (.iload_n 2, 1) := dk_28 (dk_at dksJ11_vectorizedHashCode_2 6 rfl rfl)
theorem dJ11_vectorizedHashCode_51 : decode cJ11_vectorizedHashCode 51 = .ok (.invokestatic 62, 3) := dk_184 0 62 (dk_at dksJ11_vectorizedHashCode_2 7 rfl rfl)
theorem dJ11_vectorizedHashCode_54 : decode cJ11_vectorizedHashCode 54 = .ok (.goto 103, 3) := dk_167 0 103 (dk_at dksJ11_vectorizedHashCode_2 10 rfl rfl)
theorem dJ11_vectorizedHashCode_57 : decode cJ11_vectorizedHashCode 57 = .ok (.aload_n 0, 1) := dk_42 (dk_at dksJ11_vectorizedHashCode_2 13 rfl rfl)
theorem dJ11_vectorizedHashCode_58 : decode cJ11_vectorizedHashCode 58 = .ok (.instanceof 60, 3) := dk_193 0 60 (dk_at dksJ11_vectorizedHashCode_2 14 rfl rfl)
theorem dJ11_vectorizedHashCode_61 : decode cJ11_vectorizedHashCode 61 = .ok (.ifCond .eq 16, 3) := dk_153 0 16 (dk_at dksJ11_vectorizedHashCode_2 17 rfl rfl)
theorem dJ11_vectorizedHashCode_64 : decode cJ11_vectorizedHashCode 64 = .ok (.iload_n 3, 1) := dk_29 (dk_at dksJ11_vectorizedHashCode_2 20 rfl rfl)
theorem dJ11_vectorizedHashCode_65 : decode cJ11_vectorizedHashCode 65 = .ok (.aload_n 0, 1) := dk_42 (dk_at dksJ11_vectorizedHashCode_2 21 rfl rfl)
theorem dJ11_vectorizedHashCode_66 : decode cJ11_vectorizedHashCode 66 = .ok (.checkcast 60, 3) := dk_192 0 60 (dk_at dksJ11_vectorizedHashCode_3 0 rfl rfl)
theorem dJ11_vectorizedHashCode_69 : decode cJ11_vectorizedHashCode 69 = .ok (.iload_n 1, 1) := dk_27 (dk_at dksJ11_vectorizedHashCode_3 3 rfl rfl)
theorem dJ11_vectorizedHashCode_70 : decode cJ11_vectorizedHashCode 70 = .ok (.iload_n 2, 1) := dk_28 (dk_at dksJ11_vectorizedHashCode_3 4 rfl rfl)
theorem dJ11_vectorizedHashCode_71 : decode cJ11_vectorizedHashCode 71 = .ok (.invokestatic 66, 3) := dk_184 0 66 (dk_at dksJ11_vectorizedHashCode_3 5 rfl rfl)
theorem dJ11_vectorizedHashCode_74 : decode cJ11_vectorizedHashCode 74 = .ok (.goto 83, 3) := dk_167 0 83 (dk_at dksJ11_vectorizedHashCode_3 8 rfl rfl)
theorem dJ11_vectorizedHashCode_77 : decode cJ11_vectorizedHashCode 77 = .ok (.iload_n 3, 1) := dk_29 (dk_at dksJ11_vectorizedHashCode_3 11 rfl rfl)
theorem dJ11_vectorizedHashCode_78 : decode cJ11_vectorizedHashCode 78 = .ok (.aload_n 0, 1) := dk_42 (dk_at dksJ11_vectorizedHashCode_3 12 rfl rfl)
theorem dJ11_vectorizedHashCode_79 : decode cJ11_vectorizedHashCode 79 = .ok (.checkcast 69, 3) := dk_192 0 69 (dk_at dksJ11_vectorizedHashCode_3 13 rfl rfl)
theorem dJ11_vectorizedHashCode_82 : decode cJ11_vectorizedHashCode 82 = .ok (.iload_n 1, 1) := dk_27 (dk_at dksJ11_vectorizedHashCode_3 16 rfl rfl)
theorem dJ11_vectorizedHashCode_83 : decode cJ11_vectorizedHashCode 83 = .ok (.iload_n 2, 1) := dk_28 (dk_at dksJ11_vectorizedHashCode_3 17 rfl rfl)
theorem dJ11_vectorizedHashCode_84 : decode cJ11_vectorizedHashCode 84 = .ok (.invokestatic 71, 3) := dk_184 0 71 (dk_at dksJ11_vectorizedHashCode_3 18 rfl rfl)
theorem dJ11_vectorizedHashCode_87 : decode cJ11_vectorizedHashCode 87 = .ok (.goto 70, 3) := dk_167 0 70 (dk_at dksJ11_vectorizedHashCode_3 21 rfl rfl)
theorem dJ11_vectorizedHashCode_90 : decode cJ11_vectorizedHashCode 90 = .ok (.iload_n 3, 1) := dk_29 (dk_at dksJ11_vectorizedHashCode_4 0 rfl rfl)
theorem dJ11_vectorizedHashCode_91 : decode cJ11_vectorizedHashCode 91 = .ok (.aload_n 0, 1) := dk_42 (dk_at dksJ11_vectorizedHashCode_4 1 rfl rfl)
theorem dJ11_vectorizedHashCode_92 : decode cJ11_vectorizedHashCode 92 = .ok (.checkcast 60, 3) := dk_192 0 60 (dk_at dksJ11_vectorizedHashCode_4 2 rfl rfl)
theorem dJ11_vectorizedHashCode_95 : decode cJ11_vectorizedHashCode 95 = .ok (.iload_n 1, 1) := dk_27 (dk_at dksJ11_vectorizedHashCode_4 5 rfl rfl)
theorem dJ11_vectorizedHashCode_96 : decode cJ11_vectorizedHashCode 96 = .ok (.iload_n 2, 1) := dk_28 (dk_at dksJ11_vectorizedHashCode_4 6 rfl rfl)
theorem dJ11_vectorizedHashCode_97 : decode cJ11_vectorizedHashCode 97 = .ok (.invokestatic 75, 3) := dk_184 0 75 (dk_at dksJ11_vectorizedHashCode_4 7 rfl rfl)
theorem dJ11_vectorizedHashCode_100 : decode cJ11_vectorizedHashCode 100 = .ok (.goto 57, 3) := dk_167 0 57 (dk_at dksJ11_vectorizedHashCode_4 10 rfl rfl)
theorem dJ11_vectorizedHashCode_103 : decode cJ11_vectorizedHashCode 103 = .ok (.iload_n 3, 1) := dk_29 (dk_at dksJ11_vectorizedHashCode_4 13 rfl rfl)
theorem dJ11_vectorizedHashCode_104 : decode cJ11_vectorizedHashCode 104 = .ok (.aload_n 0, 1) := dk_42 (dk_at dksJ11_vectorizedHashCode_4 14 rfl rfl)
theorem dJ11_vectorizedHashCode_105 : decode cJ11_vectorizedHashCode 105 = .ok (.checkcast 77, 3) := dk_192 0 77 (dk_at dksJ11_vectorizedHashCode_4 15 rfl rfl)
theorem dJ11_vectorizedHashCode_108 : decode cJ11_vectorizedHashCode 108 = .ok (.iload_n 1, 1) := dk_27 (dk_at dksJ11_vectorizedHashCode_4 18 rfl rfl)
theorem dJ11_vectorizedHashCode_109 : decode cJ11_vectorizedHashCode 109 = .ok (.iload_n 2, 1) := dk_28 (dk_at dksJ11_vectorizedHashCode_4 19 rfl rfl)
theorem dJ11_vectorizedHashCode_110 : decode cJ11_vectorizedHashCode 110 = .ok (.invokestatic 79, 3) := dk_184 0 79 (dk_at dksJ11_vectorizedHashCode_4 20 rfl rfl)
theorem dJ11_vectorizedHashCode_113 : decode cJ11_vectorizedHashCode 113 = .ok (.goto 44, 3) := dk_167 0 44 (dk_at dksJ11_vectorizedHashCode_5 0 rfl rfl)
theorem dJ11_vectorizedHashCode_116 : decode cJ11_vectorizedHashCode 116 = .ok (.iload_n 3, 1) := dk_29 (dk_at dksJ11_vectorizedHashCode_5 3 rfl rfl)
theorem dJ11_vectorizedHashCode_117 : decode cJ11_vectorizedHashCode 117 = .ok (.aload_n 0, 1) := dk_42 (dk_at dksJ11_vectorizedHashCode_5 4 rfl rfl)
theorem dJ11_vectorizedHashCode_118 : decode cJ11_vectorizedHashCode 118 = .ok (.checkcast 82, 3) := dk_192 0 82 (dk_at dksJ11_vectorizedHashCode_5 5 rfl rfl)
theorem dJ11_vectorizedHashCode_121 : decode cJ11_vectorizedHashCode 121 = .ok (.iload_n 1, 1) := dk_27 (dk_at dksJ11_vectorizedHashCode_5 8 rfl rfl)
theorem dJ11_vectorizedHashCode_122 : decode cJ11_vectorizedHashCode 122 = .ok (.iload_n 2, 1) := dk_28 (dk_at dksJ11_vectorizedHashCode_5 9 rfl rfl)
theorem dJ11_vectorizedHashCode_123 : decode cJ11_vectorizedHashCode 123 = .ok (.invokestatic 84, 3) := dk_184 0 84 (dk_at dksJ11_vectorizedHashCode_5 10 rfl rfl)
theorem dJ11_vectorizedHashCode_126 : decode cJ11_vectorizedHashCode 126 = .ok (.goto 31, 3) := dk_167 0 31 (dk_at dksJ11_vectorizedHashCode_5 13 rfl rfl)
theorem dJ11_vectorizedHashCode_129 : decode cJ11_vectorizedHashCode 129 = .ok (.new 87, 3) := dk_187 0 87 (dk_at dksJ11_vectorizedHashCode_5 16 rfl rfl)
theorem dJ11_vectorizedHashCode_132 : decode cJ11_vectorizedHashCode 132 = .ok (.dup, 1) := dk_89 (dk_at dksJ11_vectorizedHashCode_5 19 rfl rfl)
theorem dJ11_vectorizedHashCode_133 : decode cJ11_vectorizedHashCode 133 = .ok (.new 89, 3) := dk_187 0 89 (dk_at dksJ11_vectorizedHashCode_5 20 rfl rfl)
theorem dJ11_vectorizedHashCode_136 : decode cJ11_vectorizedHashCode 136 = .ok (.dup, 1) := dk_89 (dk_at dksJ11_vectorizedHashCode_5 23 rfl rfl)
theorem dJ11_vectorizedHashCode_137 : decode cJ11_vectorizedHashCode 137 = .ok (.invokespecial 91, 3) := dk_183 0 91 (dk_at dksJ11_vectorizedHashCode_6 0 rfl rfl)
theorem dJ11_vectorizedHashCode_140 : decode cJ11_vectorizedHashCode 140 = .ok (.ldc 92, 2) := dk_18 92 (dk_at dksJ11_vectorizedHashCode_6 3 rfl rfl)
theorem dJ11_vectorizedHashCode_142 : decode cJ11_vectorizedHashCode 142 = .ok (.invokevirtual 94, 3) := dk_182 0 94 (dk_at dksJ11_vectorizedHashCode_6 5 rfl rfl)
theorem dJ11_vectorizedHashCode_145 : decode cJ11_vectorizedHashCode 145 = .ok (.iload 4, 2) := dk_21 4 (dk_at dksJ11_vectorizedHashCode_6 8 rfl rfl)
theorem dJ11_vectorizedHashCode_147 : decode cJ11_vectorizedHashCode 147 = .ok (.invokevirtual 98, 3) := dk_182 0 98 (dk_at dksJ11_vectorizedHashCode_6 10 rfl rfl)
theorem dJ11_vectorizedHashCode_150 : decode cJ11_vectorizedHashCode 150 = .ok (.invokevirtual 101, 3) := dk_182 0 101 (dk_at dksJ11_vectorizedHashCode_6 13 rfl rfl)
theorem dJ11_vectorizedHashCode_153 : decode cJ11_vectorizedHashCode 153 = .ok (.invokespecial 105, 3) := dk_183 0 105 (dk_at dksJ11_vectorizedHashCode_6 16 rfl rfl)
theorem dJ11_vectorizedHashCode_156 : decode cJ11_vectorizedHashCode 156 = .ok (.athrow, 1) := dk_191 (dk_at dksJ11_vectorizedHashCode_6 19 rfl rfl)
theorem dJ11_vectorizedHashCode_157 : decode cJ11_vectorizedHashCode 157 = .ok (.ireturn, 1) := dk_172 (dk_at dksJ11_vectorizedHashCode_6 20 rfl rfl)
abbrev cJ11_signedHashCode : ByteArray := prog_64_method_5_code
def yJ11_signedHashCode : MethodName := ⟨RJ11, "signedHashCode", "(I[BII)I"⟩
def dkwJ11_signedHashCode_1 : List UInt8 := [17, 0, 255, 126, 96, 59, 132, 5, 1, 167, 255, 232, 26, 172]
abbrev dktJ11_signedHashCode_1 : List UInt8 := dkwJ11_signedHashCode_1 ++ []
def dkwJ11_signedHashCode_0 : List UInt8 := [28, 29, 96, 54, 4, 28, 54, 5, 21, 5, 21, 4, 162, 0, 23, 16, 31, 26, 104, 43, 21, 5, 51]
abbrev dktJ11_signedHashCode_0 : List UInt8 := dkwJ11_signedHashCode_0 ++ dktJ11_signedHashCode_1
theorem dksJ11_signedHashCode_0 : cJ11_signedHashCode.data.toList.drop 0 = dktJ11_signedHashCode_0 := by decide +kernel
theorem dksJ11_signedHashCode_1 : cJ11_signedHashCode.data.toList.drop 23 = dktJ11_signedHashCode_1 := dk_seg dksJ11_signedHashCode_0 23 rfl rfl
theorem dJ11_signedHashCode_0 : decode cJ11_signedHashCode 0 = .ok (.iload_n 2, 1) := dk_28 (dk_at dksJ11_signedHashCode_0 0 rfl rfl)
theorem dJ11_signedHashCode_1 : decode cJ11_signedHashCode 1 = .ok (.iload_n 3, 1) := dk_29 (dk_at dksJ11_signedHashCode_0 1 rfl rfl)
theorem dJ11_signedHashCode_2 : decode cJ11_signedHashCode 2 = .ok (.iadd, 1) := dk_96 (dk_at dksJ11_signedHashCode_0 2 rfl rfl)
theorem dJ11_signedHashCode_3 : decode cJ11_signedHashCode 3 = .ok (.istore 4, 2) := dk_54 4 (dk_at dksJ11_signedHashCode_0 3 rfl rfl)
theorem dJ11_signedHashCode_5 : decode cJ11_signedHashCode 5 = .ok (.iload_n 2, 1) := dk_28 (dk_at dksJ11_signedHashCode_0 5 rfl rfl)
theorem dJ11_signedHashCode_6 : decode cJ11_signedHashCode 6 = .ok (.istore 5, 2) := dk_54 5 (dk_at dksJ11_signedHashCode_0 6 rfl rfl)
theorem dJ11_signedHashCode_8 : decode cJ11_signedHashCode 8 = .ok (.iload 5, 2) := dk_21 5 (dk_at dksJ11_signedHashCode_0 8 rfl rfl)
theorem dJ11_signedHashCode_10 : decode cJ11_signedHashCode 10 = .ok (.iload 4, 2) := dk_21 4 (dk_at dksJ11_signedHashCode_0 10 rfl rfl)
theorem dJ11_signedHashCode_12 : decode cJ11_signedHashCode 12 = .ok (.if_icmp .ge 23, 3) := dk_162 0 23 (dk_at dksJ11_signedHashCode_0 12 rfl rfl)
theorem dJ11_signedHashCode_15 : decode cJ11_signedHashCode 15 = .ok (.bipush 31, 2) := dk_16 31 (dk_at dksJ11_signedHashCode_0 15 rfl rfl)
theorem dJ11_signedHashCode_17 : decode cJ11_signedHashCode 17 = .ok (.iload_n 0, 1) := dk_26 (dk_at dksJ11_signedHashCode_0 17 rfl rfl)
theorem dJ11_signedHashCode_18 : decode cJ11_signedHashCode 18 = .ok (.imul, 1) := dk_104 (dk_at dksJ11_signedHashCode_0 18 rfl rfl)
theorem dJ11_signedHashCode_19 : decode cJ11_signedHashCode 19 = .ok (.aload_n 1, 1) := dk_43 (dk_at dksJ11_signedHashCode_0 19 rfl rfl)
theorem dJ11_signedHashCode_20 : decode cJ11_signedHashCode 20 = .ok (.iload 5, 2) := dk_21 5 (dk_at dksJ11_signedHashCode_0 20 rfl rfl)
theorem dJ11_signedHashCode_22 : decode cJ11_signedHashCode 22 = .ok (.baload, 1) := dk_51 (dk_at dksJ11_signedHashCode_0 22 rfl rfl)
theorem dJ11_signedHashCode_23 : decode cJ11_signedHashCode 23 = .ok (.sipush 255, 3) := dk_17 0 255 (dk_at dksJ11_signedHashCode_1 0 rfl rfl)
theorem dJ11_signedHashCode_26 : decode cJ11_signedHashCode 26 = .ok (.iand, 1) := dk_126 (dk_at dksJ11_signedHashCode_1 3 rfl rfl)
theorem dJ11_signedHashCode_27 : decode cJ11_signedHashCode 27 = .ok (.iadd, 1) := dk_96 (dk_at dksJ11_signedHashCode_1 4 rfl rfl)
theorem dJ11_signedHashCode_28 : decode cJ11_signedHashCode 28 = .ok (.istore_n 0, 1) := dk_59 (dk_at dksJ11_signedHashCode_1 5 rfl rfl)
theorem dJ11_signedHashCode_29 : decode cJ11_signedHashCode 29 = .ok (.iinc 5 1, 3) := dk_132 5 1 (dk_at dksJ11_signedHashCode_1 6 rfl rfl)
theorem dJ11_signedHashCode_32 : decode cJ11_signedHashCode 32 = .ok (.goto (-24), 3) := dk_167 255 232 (dk_at dksJ11_signedHashCode_1 9 rfl rfl)
theorem dJ11_signedHashCode_35 : decode cJ11_signedHashCode 35 = .ok (.iload_n 0, 1) := dk_26 (dk_at dksJ11_signedHashCode_1 12 rfl rfl)
theorem dJ11_signedHashCode_36 : decode cJ11_signedHashCode 36 = .ok (.ireturn, 1) := dk_172 (dk_at dksJ11_signedHashCode_1 13 rfl rfl)
abbrev cJ11_utf16hashCode : ByteArray := prog_64_method_10_code
def yJ11_utf16hashCode : MethodName := ⟨RJ11, "utf16hashCode", "(I[BII)I"⟩
def dkwJ11_utf16hashCode_1 : List UInt8 := [21, 5, 185, 0, 110, 3, 0, 96, 59, 132, 5, 1, 167, 255, 229, 26, 172]
abbrev dktJ11_utf16hashCode_1 : List UInt8 := dkwJ11_utf16hashCode_1 ++ []
def dkwJ11_utf16hashCode_0 : List UInt8 := [28, 29, 96, 54, 4, 28, 54, 5, 21, 5, 21, 4, 162, 0, 26, 16, 31, 26, 104, 178, 0, 106, 43]
abbrev dktJ11_utf16hashCode_0 : List UInt8 := dkwJ11_utf16hashCode_0 ++ dktJ11_utf16hashCode_1
theorem dksJ11_utf16hashCode_0 : cJ11_utf16hashCode.data.toList.drop 0 = dktJ11_utf16hashCode_0 := by decide +kernel
theorem dksJ11_utf16hashCode_1 : cJ11_utf16hashCode.data.toList.drop 23 = dktJ11_utf16hashCode_1 := dk_seg dksJ11_utf16hashCode_0 23 rfl rfl
theorem dJ11_utf16hashCode_0 : decode cJ11_utf16hashCode 0 = .ok (.iload_n 2, 1) := dk_28 (dk_at dksJ11_utf16hashCode_0 0 rfl rfl)
theorem dJ11_utf16hashCode_1 : decode cJ11_utf16hashCode 1 = .ok (.iload_n 3, 1) := dk_29 (dk_at dksJ11_utf16hashCode_0 1 rfl rfl)
theorem dJ11_utf16hashCode_2 : decode cJ11_utf16hashCode 2 = .ok (.iadd, 1) := dk_96 (dk_at dksJ11_utf16hashCode_0 2 rfl rfl)
theorem dJ11_utf16hashCode_3 : decode cJ11_utf16hashCode 3 = .ok (.istore 4, 2) := dk_54 4 (dk_at dksJ11_utf16hashCode_0 3 rfl rfl)
theorem dJ11_utf16hashCode_5 : decode cJ11_utf16hashCode 5 = .ok (.iload_n 2, 1) := dk_28 (dk_at dksJ11_utf16hashCode_0 5 rfl rfl)
theorem dJ11_utf16hashCode_6 : decode cJ11_utf16hashCode 6 = .ok (.istore 5, 2) := dk_54 5 (dk_at dksJ11_utf16hashCode_0 6 rfl rfl)
theorem dJ11_utf16hashCode_8 : decode cJ11_utf16hashCode 8 = .ok (.iload 5, 2) := dk_21 5 (dk_at dksJ11_utf16hashCode_0 8 rfl rfl)
theorem dJ11_utf16hashCode_10 : decode cJ11_utf16hashCode 10 = .ok (.iload 4, 2) := dk_21 4 (dk_at dksJ11_utf16hashCode_0 10 rfl rfl)
theorem dJ11_utf16hashCode_12 : decode cJ11_utf16hashCode 12 = .ok (.if_icmp .ge 26, 3) := dk_162 0 26 (dk_at dksJ11_utf16hashCode_0 12 rfl rfl)
theorem dJ11_utf16hashCode_15 : decode cJ11_utf16hashCode 15 = .ok (.bipush 31, 2) := dk_16 31 (dk_at dksJ11_utf16hashCode_0 15 rfl rfl)
theorem dJ11_utf16hashCode_17 : decode cJ11_utf16hashCode 17 = .ok (.iload_n 0, 1) := dk_26 (dk_at dksJ11_utf16hashCode_0 17 rfl rfl)
theorem dJ11_utf16hashCode_18 : decode cJ11_utf16hashCode 18 = .ok (.imul, 1) := dk_104 (dk_at dksJ11_utf16hashCode_0 18 rfl rfl)
theorem dJ11_utf16hashCode_19 : decode cJ11_utf16hashCode 19 = .ok (.getstatic 106, 3) := dk_178 0 106 (dk_at dksJ11_utf16hashCode_0 19 rfl rfl)
theorem dJ11_utf16hashCode_22 : decode cJ11_utf16hashCode 22 = .ok (.aload_n 1, 1) := dk_43 (dk_at dksJ11_utf16hashCode_0 22 rfl rfl)
theorem dJ11_utf16hashCode_23 : decode cJ11_utf16hashCode 23 = .ok (.iload 5, 2) := dk_21 5 (dk_at dksJ11_utf16hashCode_1 0 rfl rfl)
theorem dJ11_utf16hashCode_25 : decode cJ11_utf16hashCode 25 = .ok (.invokeinterface 110 3, 5) := by decide +kernel
theorem dJ11_utf16hashCode_30 : decode cJ11_utf16hashCode 30 = .ok (.iadd, 1) := dk_96 (dk_at dksJ11_utf16hashCode_1 7 rfl rfl)
theorem dJ11_utf16hashCode_31 : decode cJ11_utf16hashCode 31 = .ok (.istore_n 0, 1) := dk_59 (dk_at dksJ11_utf16hashCode_1 8 rfl rfl)
theorem dJ11_utf16hashCode_32 : decode cJ11_utf16hashCode 32 = .ok (.iinc 5 1, 3) := dk_132 5 1 (dk_at dksJ11_utf16hashCode_1 9 rfl rfl)
theorem dJ11_utf16hashCode_35 : decode cJ11_utf16hashCode 35 = .ok (.goto (-27), 3) := dk_167 255 229 (dk_at dksJ11_utf16hashCode_1 12 rfl rfl)
theorem dJ11_utf16hashCode_38 : decode cJ11_utf16hashCode 38 = .ok (.iload_n 0, 1) := dk_26 (dk_at dksJ11_utf16hashCode_1 15 rfl rfl)
theorem dJ11_utf16hashCode_39 : decode cJ11_utf16hashCode 39 = .ok (.ireturn, 1) := dk_172 (dk_at dksJ11_utf16hashCode_1 16 rfl rfl)
abbrev cJ11_hashCode : ByteArray := prog_64_method_7_code
def yJ11_hashCode : MethodName := ⟨RJ11, "hashCode", "(I[CII)I"⟩
def dkwJ11_hashCode_1 : List UInt8 := [59, 132, 5, 1, 167, 255, 236, 26, 172]
abbrev dktJ11_hashCode_1 : List UInt8 := dkwJ11_hashCode_1 ++ []
def dkwJ11_hashCode_0 : List UInt8 := [28, 29, 96, 54, 4, 28, 54, 5, 21, 5, 21, 4, 162, 0, 19, 16, 31, 26, 104, 43, 21, 5, 52, 96]
abbrev dktJ11_hashCode_0 : List UInt8 := dkwJ11_hashCode_0 ++ dktJ11_hashCode_1
theorem dksJ11_hashCode_0 : cJ11_hashCode.data.toList.drop 0 = dktJ11_hashCode_0 := by decide +kernel
theorem dksJ11_hashCode_1 : cJ11_hashCode.data.toList.drop 24 = dktJ11_hashCode_1 := dk_seg dksJ11_hashCode_0 24 rfl rfl
theorem dJ11_hashCode_0 : decode cJ11_hashCode 0 = .ok (.iload_n 2, 1) := dk_28 (dk_at dksJ11_hashCode_0 0 rfl rfl)
theorem dJ11_hashCode_1 : decode cJ11_hashCode 1 = .ok (.iload_n 3, 1) := dk_29 (dk_at dksJ11_hashCode_0 1 rfl rfl)
theorem dJ11_hashCode_2 : decode cJ11_hashCode 2 = .ok (.iadd, 1) := dk_96 (dk_at dksJ11_hashCode_0 2 rfl rfl)
theorem dJ11_hashCode_3 : decode cJ11_hashCode 3 = .ok (.istore 4, 2) := dk_54 4 (dk_at dksJ11_hashCode_0 3 rfl rfl)
theorem dJ11_hashCode_5 : decode cJ11_hashCode 5 = .ok (.iload_n 2, 1) := dk_28 (dk_at dksJ11_hashCode_0 5 rfl rfl)
theorem dJ11_hashCode_6 : decode cJ11_hashCode 6 = .ok (.istore 5, 2) := dk_54 5 (dk_at dksJ11_hashCode_0 6 rfl rfl)
theorem dJ11_hashCode_8 : decode cJ11_hashCode 8 = .ok (.iload 5, 2) := dk_21 5 (dk_at dksJ11_hashCode_0 8 rfl rfl)
theorem dJ11_hashCode_10 : decode cJ11_hashCode 10 = .ok (.iload 4, 2) := dk_21 4 (dk_at dksJ11_hashCode_0 10 rfl rfl)
theorem dJ11_hashCode_12 : decode cJ11_hashCode 12 = .ok (.if_icmp .ge 19, 3) := dk_162 0 19 (dk_at dksJ11_hashCode_0 12 rfl rfl)
theorem dJ11_hashCode_15 : decode cJ11_hashCode 15 = .ok (.bipush 31, 2) := dk_16 31 (dk_at dksJ11_hashCode_0 15 rfl rfl)
theorem dJ11_hashCode_17 : decode cJ11_hashCode 17 = .ok (.iload_n 0, 1) := dk_26 (dk_at dksJ11_hashCode_0 17 rfl rfl)
theorem dJ11_hashCode_18 : decode cJ11_hashCode 18 = .ok (.imul, 1) := dk_104 (dk_at dksJ11_hashCode_0 18 rfl rfl)
theorem dJ11_hashCode_19 : decode cJ11_hashCode 19 = .ok (.aload_n 1, 1) := dk_43 (dk_at dksJ11_hashCode_0 19 rfl rfl)
theorem dJ11_hashCode_20 : decode cJ11_hashCode 20 = .ok (.iload 5, 2) := dk_21 5 (dk_at dksJ11_hashCode_0 20 rfl rfl)
theorem dJ11_hashCode_22 : decode cJ11_hashCode 22 = .ok (.caload, 1) := dk_52 (dk_at dksJ11_hashCode_0 22 rfl rfl)
theorem dJ11_hashCode_23 : decode cJ11_hashCode 23 = .ok (.iadd, 1) := dk_96 (dk_at dksJ11_hashCode_0 23 rfl rfl)
theorem dJ11_hashCode_24 : decode cJ11_hashCode 24 = .ok (.istore_n 0, 1) := dk_59 (dk_at dksJ11_hashCode_1 0 rfl rfl)
theorem dJ11_hashCode_25 : decode cJ11_hashCode 25 = .ok (.iinc 5 1, 3) := dk_132 5 1 (dk_at dksJ11_hashCode_1 1 rfl rfl)
theorem dJ11_hashCode_28 : decode cJ11_hashCode 28 = .ok (.goto (-20), 3) := dk_167 255 236 (dk_at dksJ11_hashCode_1 4 rfl rfl)
theorem dJ11_hashCode_31 : decode cJ11_hashCode 31 = .ok (.iload_n 0, 1) := dk_26 (dk_at dksJ11_hashCode_1 7 rfl rfl)
theorem dJ11_hashCode_32 : decode cJ11_hashCode 32 = .ok (.ireturn, 1) := dk_172 (dk_at dksJ11_hashCode_1 8 rfl rfl)
abbrev cJ11_hashCode_2 : ByteArray := prog_64_method_6_code
def yJ11_hashCode_2 : MethodName := ⟨RJ11, "hashCode", "(I[BII)I"⟩
def dkwJ11_hashCode_2_1 : List UInt8 := [59, 132, 5, 1, 167, 255, 236, 26, 172]
abbrev dktJ11_hashCode_2_1 : List UInt8 := dkwJ11_hashCode_2_1 ++ []
def dkwJ11_hashCode_2_0 : List UInt8 := [28, 29, 96, 54, 4, 28, 54, 5, 21, 5, 21, 4, 162, 0, 19, 16, 31, 26, 104, 43, 21, 5, 51, 96]
abbrev dktJ11_hashCode_2_0 : List UInt8 := dkwJ11_hashCode_2_0 ++ dktJ11_hashCode_2_1
theorem dksJ11_hashCode_2_0 : cJ11_hashCode_2.data.toList.drop 0 = dktJ11_hashCode_2_0 := by decide +kernel
theorem dksJ11_hashCode_2_1 : cJ11_hashCode_2.data.toList.drop 24 = dktJ11_hashCode_2_1 := dk_seg dksJ11_hashCode_2_0 24 rfl rfl
theorem dJ11_hashCode_2_0 : decode cJ11_hashCode_2 0 = .ok (.iload_n 2, 1) := dk_28 (dk_at dksJ11_hashCode_2_0 0 rfl rfl)
theorem dJ11_hashCode_2_1 : decode cJ11_hashCode_2 1 = .ok (.iload_n 3, 1) := dk_29 (dk_at dksJ11_hashCode_2_0 1 rfl rfl)
theorem dJ11_hashCode_2_2 : decode cJ11_hashCode_2 2 = .ok (.iadd, 1) := dk_96 (dk_at dksJ11_hashCode_2_0 2 rfl rfl)
theorem dJ11_hashCode_2_3 : decode cJ11_hashCode_2 3 = .ok (.istore 4, 2) := dk_54 4 (dk_at dksJ11_hashCode_2_0 3 rfl rfl)
theorem dJ11_hashCode_2_5 : decode cJ11_hashCode_2 5 = .ok (.iload_n 2, 1) := dk_28 (dk_at dksJ11_hashCode_2_0 5 rfl rfl)
theorem dJ11_hashCode_2_6 : decode cJ11_hashCode_2 6 = .ok (.istore 5, 2) := dk_54 5 (dk_at dksJ11_hashCode_2_0 6 rfl rfl)
theorem dJ11_hashCode_2_8 : decode cJ11_hashCode_2 8 = .ok (.iload 5, 2) := dk_21 5 (dk_at dksJ11_hashCode_2_0 8 rfl rfl)
theorem dJ11_hashCode_2_10 : decode cJ11_hashCode_2 10 = .ok (.iload 4, 2) := dk_21 4 (dk_at dksJ11_hashCode_2_0 10 rfl rfl)
theorem dJ11_hashCode_2_12 : decode cJ11_hashCode_2 12 = .ok (.if_icmp .ge 19, 3) := dk_162 0 19 (dk_at dksJ11_hashCode_2_0 12 rfl rfl)
theorem dJ11_hashCode_2_15 : decode cJ11_hashCode_2 15 = .ok (.bipush 31, 2) := dk_16 31 (dk_at dksJ11_hashCode_2_0 15 rfl rfl)
theorem dJ11_hashCode_2_17 : decode cJ11_hashCode_2 17 = .ok (.iload_n 0, 1) := dk_26 (dk_at dksJ11_hashCode_2_0 17 rfl rfl)
theorem dJ11_hashCode_2_18 : decode cJ11_hashCode_2 18 = .ok (.imul, 1) := dk_104 (dk_at dksJ11_hashCode_2_0 18 rfl rfl)
theorem dJ11_hashCode_2_19 : decode cJ11_hashCode_2 19 = .ok (.aload_n 1, 1) := dk_43 (dk_at dksJ11_hashCode_2_0 19 rfl rfl)
theorem dJ11_hashCode_2_20 : decode cJ11_hashCode_2 20 = .ok (.iload 5, 2) := dk_21 5 (dk_at dksJ11_hashCode_2_0 20 rfl rfl)
theorem dJ11_hashCode_2_22 : decode cJ11_hashCode_2 22 = .ok (.baload, 1) := dk_51 (dk_at dksJ11_hashCode_2_0 22 rfl rfl)
theorem dJ11_hashCode_2_23 : decode cJ11_hashCode_2 23 = .ok (.iadd, 1) := dk_96 (dk_at dksJ11_hashCode_2_0 23 rfl rfl)
theorem dJ11_hashCode_2_24 : decode cJ11_hashCode_2 24 = .ok (.istore_n 0, 1) := dk_59 (dk_at dksJ11_hashCode_2_1 0 rfl rfl)
theorem dJ11_hashCode_2_25 : decode cJ11_hashCode_2 25 = .ok (.iinc 5 1, 3) := dk_132 5 1 (dk_at dksJ11_hashCode_2_1 1 rfl rfl)
theorem dJ11_hashCode_2_28 : decode cJ11_hashCode_2 28 = .ok (.goto (-20), 3) := dk_167 255 236 (dk_at dksJ11_hashCode_2_1 4 rfl rfl)
theorem dJ11_hashCode_2_31 : decode cJ11_hashCode_2 31 = .ok (.iload_n 0, 1) := dk_26 (dk_at dksJ11_hashCode_2_1 7 rfl rfl)
theorem dJ11_hashCode_2_32 : decode cJ11_hashCode_2 32 = .ok (.ireturn, 1) := dk_172 (dk_at dksJ11_hashCode_2_1 8 rfl rfl)
abbrev cJ11_hashCode_3 : ByteArray := prog_64_method_8_code
def yJ11_hashCode_3 : MethodName := ⟨RJ11, "hashCode", "(I[SII)I"⟩
def dkwJ11_hashCode_3_1 : List UInt8 := [59, 132, 5, 1, 167, 255, 236, 26, 172]
abbrev dktJ11_hashCode_3_1 : List UInt8 := dkwJ11_hashCode_3_1 ++ []
def dkwJ11_hashCode_3_0 : List UInt8 := [28, 29, 96, 54, 4, 28, 54, 5, 21, 5, 21, 4, 162, 0, 19, 16, 31, 26, 104, 43, 21, 5, 53, 96]
abbrev dktJ11_hashCode_3_0 : List UInt8 := dkwJ11_hashCode_3_0 ++ dktJ11_hashCode_3_1
theorem dksJ11_hashCode_3_0 : cJ11_hashCode_3.data.toList.drop 0 = dktJ11_hashCode_3_0 := by decide +kernel
theorem dksJ11_hashCode_3_1 : cJ11_hashCode_3.data.toList.drop 24 = dktJ11_hashCode_3_1 := dk_seg dksJ11_hashCode_3_0 24 rfl rfl
theorem dJ11_hashCode_3_0 : decode cJ11_hashCode_3 0 = .ok (.iload_n 2, 1) := dk_28 (dk_at dksJ11_hashCode_3_0 0 rfl rfl)
theorem dJ11_hashCode_3_1 : decode cJ11_hashCode_3 1 = .ok (.iload_n 3, 1) := dk_29 (dk_at dksJ11_hashCode_3_0 1 rfl rfl)
theorem dJ11_hashCode_3_2 : decode cJ11_hashCode_3 2 = .ok (.iadd, 1) := dk_96 (dk_at dksJ11_hashCode_3_0 2 rfl rfl)
theorem dJ11_hashCode_3_3 : decode cJ11_hashCode_3 3 = .ok (.istore 4, 2) := dk_54 4 (dk_at dksJ11_hashCode_3_0 3 rfl rfl)
theorem dJ11_hashCode_3_5 : decode cJ11_hashCode_3 5 = .ok (.iload_n 2, 1) := dk_28 (dk_at dksJ11_hashCode_3_0 5 rfl rfl)
theorem dJ11_hashCode_3_6 : decode cJ11_hashCode_3 6 = .ok (.istore 5, 2) := dk_54 5 (dk_at dksJ11_hashCode_3_0 6 rfl rfl)
theorem dJ11_hashCode_3_8 : decode cJ11_hashCode_3 8 = .ok (.iload 5, 2) := dk_21 5 (dk_at dksJ11_hashCode_3_0 8 rfl rfl)
theorem dJ11_hashCode_3_10 : decode cJ11_hashCode_3 10 = .ok (.iload 4, 2) := dk_21 4 (dk_at dksJ11_hashCode_3_0 10 rfl rfl)
theorem dJ11_hashCode_3_12 : decode cJ11_hashCode_3 12 = .ok (.if_icmp .ge 19, 3) := dk_162 0 19 (dk_at dksJ11_hashCode_3_0 12 rfl rfl)
theorem dJ11_hashCode_3_15 : decode cJ11_hashCode_3 15 = .ok (.bipush 31, 2) := dk_16 31 (dk_at dksJ11_hashCode_3_0 15 rfl rfl)
theorem dJ11_hashCode_3_17 : decode cJ11_hashCode_3 17 = .ok (.iload_n 0, 1) := dk_26 (dk_at dksJ11_hashCode_3_0 17 rfl rfl)
theorem dJ11_hashCode_3_18 : decode cJ11_hashCode_3 18 = .ok (.imul, 1) := dk_104 (dk_at dksJ11_hashCode_3_0 18 rfl rfl)
theorem dJ11_hashCode_3_19 : decode cJ11_hashCode_3 19 = .ok (.aload_n 1, 1) := dk_43 (dk_at dksJ11_hashCode_3_0 19 rfl rfl)
theorem dJ11_hashCode_3_20 : decode cJ11_hashCode_3 20 = .ok (.iload 5, 2) := dk_21 5 (dk_at dksJ11_hashCode_3_0 20 rfl rfl)
theorem dJ11_hashCode_3_22 : decode cJ11_hashCode_3 22 = .ok (.saload, 1) := dk_53 (dk_at dksJ11_hashCode_3_0 22 rfl rfl)
theorem dJ11_hashCode_3_23 : decode cJ11_hashCode_3 23 = .ok (.iadd, 1) := dk_96 (dk_at dksJ11_hashCode_3_0 23 rfl rfl)
theorem dJ11_hashCode_3_24 : decode cJ11_hashCode_3 24 = .ok (.istore_n 0, 1) := dk_59 (dk_at dksJ11_hashCode_3_1 0 rfl rfl)
theorem dJ11_hashCode_3_25 : decode cJ11_hashCode_3 25 = .ok (.iinc 5 1, 3) := dk_132 5 1 (dk_at dksJ11_hashCode_3_1 1 rfl rfl)
theorem dJ11_hashCode_3_28 : decode cJ11_hashCode_3 28 = .ok (.goto (-20), 3) := dk_167 255 236 (dk_at dksJ11_hashCode_3_1 4 rfl rfl)
theorem dJ11_hashCode_3_31 : decode cJ11_hashCode_3 31 = .ok (.iload_n 0, 1) := dk_26 (dk_at dksJ11_hashCode_3_1 7 rfl rfl)
theorem dJ11_hashCode_3_32 : decode cJ11_hashCode_3 32 = .ok (.ireturn, 1) := dk_172 (dk_at dksJ11_hashCode_3_1 8 rfl rfl)
abbrev cJ11_hashCode_4 : ByteArray := prog_64_method_9_code
def yJ11_hashCode_4 : MethodName := ⟨RJ11, "hashCode", "(I[III)I"⟩
def dkwJ11_hashCode_4_1 : List UInt8 := [59, 132, 5, 1, 167, 255, 236, 26, 172]
abbrev dktJ11_hashCode_4_1 : List UInt8 := dkwJ11_hashCode_4_1 ++ []
def dkwJ11_hashCode_4_0 : List UInt8 := [28, 29, 96, 54, 4, 28, 54, 5, 21, 5, 21, 4, 162, 0, 19, 16, 31, 26, 104, 43, 21, 5, 46, 96]
abbrev dktJ11_hashCode_4_0 : List UInt8 := dkwJ11_hashCode_4_0 ++ dktJ11_hashCode_4_1
theorem dksJ11_hashCode_4_0 : cJ11_hashCode_4.data.toList.drop 0 = dktJ11_hashCode_4_0 := by decide +kernel
theorem dksJ11_hashCode_4_1 : cJ11_hashCode_4.data.toList.drop 24 = dktJ11_hashCode_4_1 := dk_seg dksJ11_hashCode_4_0 24 rfl rfl
theorem dJ11_hashCode_4_0 : decode cJ11_hashCode_4 0 = .ok (.iload_n 2, 1) := dk_28 (dk_at dksJ11_hashCode_4_0 0 rfl rfl)
theorem dJ11_hashCode_4_1 : decode cJ11_hashCode_4 1 = .ok (.iload_n 3, 1) := dk_29 (dk_at dksJ11_hashCode_4_0 1 rfl rfl)
theorem dJ11_hashCode_4_2 : decode cJ11_hashCode_4 2 = .ok (.iadd, 1) := dk_96 (dk_at dksJ11_hashCode_4_0 2 rfl rfl)
theorem dJ11_hashCode_4_3 : decode cJ11_hashCode_4 3 = .ok (.istore 4, 2) := dk_54 4 (dk_at dksJ11_hashCode_4_0 3 rfl rfl)
theorem dJ11_hashCode_4_5 : decode cJ11_hashCode_4 5 = .ok (.iload_n 2, 1) := dk_28 (dk_at dksJ11_hashCode_4_0 5 rfl rfl)
theorem dJ11_hashCode_4_6 : decode cJ11_hashCode_4 6 = .ok (.istore 5, 2) := dk_54 5 (dk_at dksJ11_hashCode_4_0 6 rfl rfl)
theorem dJ11_hashCode_4_8 : decode cJ11_hashCode_4 8 = .ok (.iload 5, 2) := dk_21 5 (dk_at dksJ11_hashCode_4_0 8 rfl rfl)
theorem dJ11_hashCode_4_10 : decode cJ11_hashCode_4 10 = .ok (.iload 4, 2) := dk_21 4 (dk_at dksJ11_hashCode_4_0 10 rfl rfl)
theorem dJ11_hashCode_4_12 : decode cJ11_hashCode_4 12 = .ok (.if_icmp .ge 19, 3) := dk_162 0 19 (dk_at dksJ11_hashCode_4_0 12 rfl rfl)
theorem dJ11_hashCode_4_15 : decode cJ11_hashCode_4 15 = .ok (.bipush 31, 2) := dk_16 31 (dk_at dksJ11_hashCode_4_0 15 rfl rfl)
theorem dJ11_hashCode_4_17 : decode cJ11_hashCode_4 17 = .ok (.iload_n 0, 1) := dk_26 (dk_at dksJ11_hashCode_4_0 17 rfl rfl)
theorem dJ11_hashCode_4_18 : decode cJ11_hashCode_4 18 = .ok (.imul, 1) := dk_104 (dk_at dksJ11_hashCode_4_0 18 rfl rfl)
theorem dJ11_hashCode_4_19 : decode cJ11_hashCode_4 19 = .ok (.aload_n 1, 1) := dk_43 (dk_at dksJ11_hashCode_4_0 19 rfl rfl)
theorem dJ11_hashCode_4_20 : decode cJ11_hashCode_4 20 = .ok (.iload 5, 2) := dk_21 5 (dk_at dksJ11_hashCode_4_0 20 rfl rfl)
theorem dJ11_hashCode_4_22 : decode cJ11_hashCode_4 22 = .ok (.iaload, 1) := dk_46 (dk_at dksJ11_hashCode_4_0 22 rfl rfl)
theorem dJ11_hashCode_4_23 : decode cJ11_hashCode_4 23 = .ok (.iadd, 1) := dk_96 (dk_at dksJ11_hashCode_4_0 23 rfl rfl)
theorem dJ11_hashCode_4_24 : decode cJ11_hashCode_4 24 = .ok (.istore_n 0, 1) := dk_59 (dk_at dksJ11_hashCode_4_1 0 rfl rfl)
theorem dJ11_hashCode_4_25 : decode cJ11_hashCode_4 25 = .ok (.iinc 5 1, 3) := dk_132 5 1 (dk_at dksJ11_hashCode_4_1 1 rfl rfl)
theorem dJ11_hashCode_4_28 : decode cJ11_hashCode_4 28 = .ok (.goto (-20), 3) := dk_167 255 236 (dk_at dksJ11_hashCode_4_1 4 rfl rfl)
theorem dJ11_hashCode_4_31 : decode cJ11_hashCode_4 31 = .ok (.iload_n 0, 1) := dk_26 (dk_at dksJ11_hashCode_4_1 7 rfl rfl)
theorem dJ11_hashCode_4_32 : decode cJ11_hashCode_4 32 = .ok (.ireturn, 1) := dk_172 (dk_at dksJ11_hashCode_4_1 8 rfl rfl)
theorem q142 : (Jvm.Cond.initialized "jdk/internal/util/ArraysSupport") ∈ lw_all := lw_g (lw_at lw_m1 14 rfl) rfl
theorem q304 : (Jvm.Cond.static ({ cls := "jdk/internal/util/ArraysSupport", name := "newLength", desc := "(III)I" } : Jvm.MethodName)) ∈ lw_all := lw_g (lw_at lw_m1 176 rfl) rfl
theorem q305 : (Jvm.Cond.code ({ cls := "jdk/internal/util/ArraysSupport", name := "newLength", desc := "(III)I" } : Jvm.MethodName) prog_64_method_27_code (4 : Nat) (Option.some Jvm.ClassFile.FieldType.int)) ∈ lw_all := lw_g (lw_at lw_m1 177 rfl) rfl
theorem q306 : (Jvm.Cond.methodLink "jdk/internal/util/ArraysSupport" (194 : Nat) ({ cls := "java/lang/Math", name := "max", desc := "(II)I" } : Jvm.MethodName)) ∈ lw_all := lw_g (lw_at lw_m1 178 rfl) rfl
theorem q309 : (Jvm.Cond.constant "jdk/internal/util/ArraysSupport" (200 : Nat) (2147483639 : Int32)) ∈ lw_all := lw_g (lw_at lw_m1 181 rfl) rfl
theorem q310 : (Jvm.Cond.methodLink "jdk/internal/util/ArraysSupport" (201 : Nat) ({ cls := "jdk/internal/util/ArraysSupport", name := "hugeLength", desc := "(II)I" } : Jvm.MethodName)) ∈ lw_all := lw_g (lw_at lw_m1 182 rfl) rfl
theorem q311 : (Jvm.Cond.static ({ cls := "jdk/internal/util/ArraysSupport", name := "hugeLength", desc := "(II)I" } : Jvm.MethodName)) ∈ lw_all := lw_g (lw_at lw_m1 183 rfl) rfl
theorem q312 : (Jvm.Cond.code ({ cls := "jdk/internal/util/ArraysSupport", name := "hugeLength", desc := "(II)I" } : Jvm.MethodName) prog_64_method_28_code (3 : Nat) (Option.some Jvm.ClassFile.FieldType.int)) ∈ lw_all := lw_g (lw_at lw_m1 184 rfl) rfl
theorem q1164 : (Jvm.Cond.static ({ cls := "jdk/internal/util/ArraysSupport", name := "mismatch", desc := "([B[BI)I" } : Jvm.MethodName)) ∈ lw_all := lw_g (lw_at lw_m5 76 rfl) rfl
theorem q1165 : (Jvm.Cond.code ({ cls := "jdk/internal/util/ArraysSupport", name := "mismatch", desc := "([B[BI)I" } : Jvm.MethodName) prog_64_method_13_code (4 : Nat) (Option.some Jvm.ClassFile.FieldType.int)) ∈ lw_all := lw_g (lw_at lw_m5 77 rfl) rfl
theorem q1166 : (Jvm.Cond.fieldLink "jdk/internal/util/ArraysSupport" (126 : Nat) "jdk/internal/misc/Unsafe" "ARRAY_BYTE_BASE_OFFSET" "I") ∈ lw_all := lw_g (lw_at lw_m5 78 rfl) rfl
theorem q1168 : (Jvm.Cond.fieldLink "jdk/internal/util/ArraysSupport" (129 : Nat) "jdk/internal/util/ArraysSupport" "LOG2_ARRAY_BYTE_INDEX_SCALE" "I") ∈ lw_all := lw_g (lw_at lw_m5 80 rfl) rfl
theorem q1169 : (Jvm.Cond.laysStatic "jdk/internal/util/ArraysSupport" "LOG2_ARRAY_BYTE_INDEX_SCALE" "I") ∈ lw_tbl := lw_at lw_m5 81 rfl
theorem q1170 : (Jvm.Cond.methodLink "jdk/internal/util/ArraysSupport" (122 : Nat) ({ cls := "jdk/internal/util/ArraysSupport", name := "vectorizedMismatch", desc := "(Ljava/lang/Object;JLjava/lang/Object;JII)I" } : Jvm.MethodName)) ∈ lw_all := lw_g (lw_at lw_m5 82 rfl) rfl
theorem q1171 : (Jvm.Cond.static ({ cls := "jdk/internal/util/ArraysSupport", name := "vectorizedMismatch", desc := "(Ljava/lang/Object;JLjava/lang/Object;JII)I" } : Jvm.MethodName)) ∈ lw_all := lw_g (lw_at lw_m5 83 rfl) rfl
theorem q1172 : (Jvm.Cond.code ({ cls := "jdk/internal/util/ArraysSupport", name := "vectorizedMismatch", desc := "(Ljava/lang/Object;JLjava/lang/Object;JII)I" } : Jvm.MethodName) prog_64_method_3_code (19 : Nat) (Option.some Jvm.ClassFile.FieldType.int)) ∈ lw_all := lw_g (lw_at lw_m5 84 rfl) rfl
theorem q1173 : (Jvm.Cond.fieldLink "jdk/internal/util/ArraysSupport" (20 : Nat) "jdk/internal/util/ArraysSupport" "LOG2_ARRAY_LONG_INDEX_SCALE" "I") ∈ lw_all := lw_g (lw_at lw_m5 85 rfl) rfl
theorem q1174 : (Jvm.Cond.laysStatic "jdk/internal/util/ArraysSupport" "LOG2_ARRAY_LONG_INDEX_SCALE" "I") ∈ lw_tbl := lw_at lw_m5 86 rfl
theorem q1175 : (Jvm.Cond.fieldLink "jdk/internal/util/ArraysSupport" (26 : Nat) "jdk/internal/util/ArraysSupport" "U" "Ljdk/internal/misc/Unsafe;") ∈ lw_all := lw_g (lw_at lw_m5 87 rfl) rfl
theorem q1176 : (Jvm.Cond.laysStatic "jdk/internal/util/ArraysSupport" "U" "Ljdk/internal/misc/Unsafe;") ∈ lw_tbl := lw_at lw_m5 88 rfl
theorem q1177 : (Jvm.Cond.methodLink "jdk/internal/util/ArraysSupport" (30 : Nat) ({ cls := "jdk/internal/misc/Unsafe", name := "getLongUnaligned", desc := "(Ljava/lang/Object;J)J" } : Jvm.MethodName)) ∈ lw_all := lw_g (lw_at lw_m5 89 rfl) rfl
theorem q1229 : (Jvm.Cond.fieldLink "jdk/internal/util/ArraysSupport" (36 : Nat) "jdk/internal/util/ArraysSupport" "BIG_ENDIAN" "Z") ∈ lw_all := lw_g (lw_at lw_m5 141 rfl) rfl
theorem q1230 : (Jvm.Cond.laysStatic "jdk/internal/util/ArraysSupport" "BIG_ENDIAN" "Z") ∈ lw_tbl := lw_at lw_m5 142 rfl
theorem q1231 : (Jvm.Cond.methodLink "jdk/internal/util/ArraysSupport" (40 : Nat) ({ cls := "java/lang/Long", name := "numberOfLeadingZeros", desc := "(J)I" } : Jvm.MethodName)) ∈ lw_all := lw_g (lw_at lw_m5 143 rfl) rfl
theorem q1238 : (Jvm.Cond.fieldLink "jdk/internal/util/ArraysSupport" (46 : Nat) "jdk/internal/util/ArraysSupport" "LOG2_BYTE_BIT_SIZE" "I") ∈ lw_all := lw_g (lw_at lw_m5 150 rfl) rfl
theorem q1239 : (Jvm.Cond.laysStatic "jdk/internal/util/ArraysSupport" "LOG2_BYTE_BIT_SIZE" "I") ∈ lw_tbl := lw_at lw_m5 151 rfl
theorem q1240 : (Jvm.Cond.methodLink "jdk/internal/util/ArraysSupport" (49 : Nat) ({ cls := "java/lang/Long", name := "numberOfTrailingZeros", desc := "(J)I" } : Jvm.MethodName)) ∈ lw_all := lw_g (lw_at lw_m5 152 rfl) rfl
theorem q1246 : (Jvm.Cond.fieldLink "jdk/internal/util/ArraysSupport" (51 : Nat) "jdk/internal/util/ArraysSupport" "LOG2_ARRAY_INT_INDEX_SCALE" "I") ∈ lw_all := lw_g (lw_at lw_m5 158 rfl) rfl
theorem q1247 : (Jvm.Cond.laysStatic "jdk/internal/util/ArraysSupport" "LOG2_ARRAY_INT_INDEX_SCALE" "I") ∈ lw_tbl := lw_at lw_m5 159 rfl
theorem q1248 : (Jvm.Cond.methodLink "jdk/internal/util/ArraysSupport" (54 : Nat) ({ cls := "jdk/internal/misc/Unsafe", name := "getIntUnaligned", desc := "(Ljava/lang/Object;J)I" } : Jvm.MethodName)) ∈ lw_all := lw_g (lw_at lw_m5 160 rfl) rfl
theorem q1265 : (Jvm.Cond.methodLink "jdk/internal/util/ArraysSupport" (58 : Nat) ({ cls := "java/lang/Integer", name := "numberOfLeadingZeros", desc := "(I)I" } : Jvm.MethodName)) ∈ lw_all := lw_g (lw_at lw_m5 177 rfl) rfl
theorem q1266 : (Jvm.Cond.methodLink "jdk/internal/util/ArraysSupport" (11 : Nat) ({ cls := "java/lang/Integer", name := "numberOfTrailingZeros", desc := "(I)I" } : Jvm.MethodName)) ∈ lw_all := lw_g (lw_at lw_m5 178 rfl) rfl
theorem q1453 : (Jvm.Cond.static ({ cls := "jdk/internal/util/ArraysSupport", name := "vectorizedHashCode", desc := "(Ljava/lang/Object;IIII)I" } : Jvm.MethodName)) ∈ lw_all := lw_g (lw_at lw_m6 125 rfl) rfl
theorem q1454 : (Jvm.Cond.code ({ cls := "jdk/internal/util/ArraysSupport", name := "vectorizedHashCode", desc := "(Ljava/lang/Object;IIII)I" } : Jvm.MethodName) prog_64_method_4_code (5 : Nat) (Option.some Jvm.ClassFile.FieldType.int)) ∈ lw_all := lw_g (lw_at lw_m6 126 rfl) rfl
theorem q1455 : (Jvm.Cond.classLink "jdk/internal/util/ArraysSupport" (60 : Nat) "[B") ∈ lw_all := lw_g (lw_at lw_m6 127 rfl) rfl
theorem q1456 : (Jvm.Cond.methodLink "jdk/internal/util/ArraysSupport" (62 : Nat) ({ cls := "jdk/internal/util/ArraysSupport", name := "signedHashCode", desc := "(I[BII)I" } : Jvm.MethodName)) ∈ lw_all := lw_g (lw_at lw_m6 128 rfl) rfl
theorem q1457 : (Jvm.Cond.static ({ cls := "jdk/internal/util/ArraysSupport", name := "signedHashCode", desc := "(I[BII)I" } : Jvm.MethodName)) ∈ lw_all := lw_g (lw_at lw_m6 129 rfl) rfl
theorem q1458 : (Jvm.Cond.code ({ cls := "jdk/internal/util/ArraysSupport", name := "signedHashCode", desc := "(I[BII)I" } : Jvm.MethodName) prog_64_method_5_code (6 : Nat) (Option.some Jvm.ClassFile.FieldType.int)) ∈ lw_all := lw_g (lw_at lw_m6 130 rfl) rfl
theorem q1459 : (Jvm.Cond.methodLink "jdk/internal/util/ArraysSupport" (66 : Nat) ({ cls := "jdk/internal/util/ArraysSupport", name := "utf16hashCode", desc := "(I[BII)I" } : Jvm.MethodName)) ∈ lw_all := lw_g (lw_at lw_m6 131 rfl) rfl
theorem q1460 : (Jvm.Cond.static ({ cls := "jdk/internal/util/ArraysSupport", name := "utf16hashCode", desc := "(I[BII)I" } : Jvm.MethodName)) ∈ lw_all := lw_g (lw_at lw_m6 132 rfl) rfl
theorem q1461 : (Jvm.Cond.code ({ cls := "jdk/internal/util/ArraysSupport", name := "utf16hashCode", desc := "(I[BII)I" } : Jvm.MethodName) prog_64_method_10_code (6 : Nat) (Option.some Jvm.ClassFile.FieldType.int)) ∈ lw_all := lw_g (lw_at lw_m6 133 rfl) rfl
theorem q1462 : (Jvm.Cond.fieldLink "jdk/internal/util/ArraysSupport" (106 : Nat) "jdk/internal/util/ArraysSupport" "JLA" "Ljdk/internal/access/JavaLangAccess;") ∈ lw_all := lw_g (lw_at lw_m6 134 rfl) rfl
theorem q1463 : (Jvm.Cond.laysStatic "jdk/internal/util/ArraysSupport" "JLA" "Ljdk/internal/access/JavaLangAccess;") ∈ lw_tbl := lw_at lw_m6 135 rfl
theorem q1464 : (Jvm.Cond.interfaceEntry "jdk/internal/util/ArraysSupport" (110 : Nat)) ∈ lw_tbl := lw_at lw_m6 136 rfl
theorem q1465 : (Jvm.Cond.methodLink "jdk/internal/util/ArraysSupport" (110 : Nat) ({ cls := "jdk/internal/access/JavaLangAccess", name := "getUTF16Char", desc := "([BI)C" } : Jvm.MethodName)) ∈ lw_all := lw_g (lw_at lw_m6 137 rfl) rfl
theorem q1475 : (Jvm.Cond.classLink "jdk/internal/util/ArraysSupport" (69 : Nat) "[C") ∈ lw_all := lw_g (lw_at lw_m6 147 rfl) rfl
theorem q1476 : (Jvm.Cond.methodLink "jdk/internal/util/ArraysSupport" (71 : Nat) ({ cls := "jdk/internal/util/ArraysSupport", name := "hashCode", desc := "(I[CII)I" } : Jvm.MethodName)) ∈ lw_all := lw_g (lw_at lw_m6 148 rfl) rfl
theorem q1477 : (Jvm.Cond.static ({ cls := "jdk/internal/util/ArraysSupport", name := "hashCode", desc := "(I[CII)I" } : Jvm.MethodName)) ∈ lw_all := lw_g (lw_at lw_m6 149 rfl) rfl
theorem q1478 : (Jvm.Cond.code ({ cls := "jdk/internal/util/ArraysSupport", name := "hashCode", desc := "(I[CII)I" } : Jvm.MethodName) prog_64_method_7_code (6 : Nat) (Option.some Jvm.ClassFile.FieldType.int)) ∈ lw_all := lw_g (lw_at lw_m6 150 rfl) rfl
theorem q1479 : (Jvm.Cond.methodLink "jdk/internal/util/ArraysSupport" (75 : Nat) ({ cls := "jdk/internal/util/ArraysSupport", name := "hashCode", desc := "(I[BII)I" } : Jvm.MethodName)) ∈ lw_all := lw_g (lw_at lw_m6 151 rfl) rfl
theorem q1480 : (Jvm.Cond.static ({ cls := "jdk/internal/util/ArraysSupport", name := "hashCode", desc := "(I[BII)I" } : Jvm.MethodName)) ∈ lw_all := lw_g (lw_at lw_m6 152 rfl) rfl
theorem q1481 : (Jvm.Cond.code ({ cls := "jdk/internal/util/ArraysSupport", name := "hashCode", desc := "(I[BII)I" } : Jvm.MethodName) prog_64_method_6_code (6 : Nat) (Option.some Jvm.ClassFile.FieldType.int)) ∈ lw_all := lw_g (lw_at lw_m6 153 rfl) rfl
theorem q1482 : (Jvm.Cond.classLink "jdk/internal/util/ArraysSupport" (77 : Nat) "[S") ∈ lw_all := lw_g (lw_at lw_m6 154 rfl) rfl
theorem q1483 : (Jvm.Cond.methodLink "jdk/internal/util/ArraysSupport" (79 : Nat) ({ cls := "jdk/internal/util/ArraysSupport", name := "hashCode", desc := "(I[SII)I" } : Jvm.MethodName)) ∈ lw_all := lw_g (lw_at lw_m6 155 rfl) rfl
theorem q1484 : (Jvm.Cond.static ({ cls := "jdk/internal/util/ArraysSupport", name := "hashCode", desc := "(I[SII)I" } : Jvm.MethodName)) ∈ lw_all := lw_g (lw_at lw_m6 156 rfl) rfl
theorem q1485 : (Jvm.Cond.code ({ cls := "jdk/internal/util/ArraysSupport", name := "hashCode", desc := "(I[SII)I" } : Jvm.MethodName) prog_64_method_8_code (6 : Nat) (Option.some Jvm.ClassFile.FieldType.int)) ∈ lw_all := lw_g (lw_at lw_m6 157 rfl) rfl
theorem q1486 : (Jvm.Cond.classLink "jdk/internal/util/ArraysSupport" (82 : Nat) "[I") ∈ lw_all := lw_g (lw_at lw_m6 158 rfl) rfl
theorem q1487 : (Jvm.Cond.methodLink "jdk/internal/util/ArraysSupport" (84 : Nat) ({ cls := "jdk/internal/util/ArraysSupport", name := "hashCode", desc := "(I[III)I" } : Jvm.MethodName)) ∈ lw_all := lw_g (lw_at lw_m6 159 rfl) rfl
theorem q1488 : (Jvm.Cond.static ({ cls := "jdk/internal/util/ArraysSupport", name := "hashCode", desc := "(I[III)I" } : Jvm.MethodName)) ∈ lw_all := lw_g (lw_at lw_m6 160 rfl) rfl
theorem q1489 : (Jvm.Cond.code ({ cls := "jdk/internal/util/ArraysSupport", name := "hashCode", desc := "(I[III)I" } : Jvm.MethodName) prog_64_method_9_code (6 : Nat) (Option.some Jvm.ClassFile.FieldType.int)) ∈ lw_all := lw_g (lw_at lw_m6 161 rfl) rfl
theorem q1490 : (Jvm.Cond.classLink "jdk/internal/util/ArraysSupport" (87 : Nat) "java/lang/IllegalArgumentException") ∈ lw_all := lw_g (lw_at lw_m6 162 rfl) rfl
theorem q1491 : (Jvm.Cond.classLink "jdk/internal/util/ArraysSupport" (89 : Nat) "java/lang/StringBuilder") ∈ lw_all := lw_g (lw_at lw_m6 163 rfl) rfl
theorem q1492 : (Jvm.Cond.methodLink "jdk/internal/util/ArraysSupport" (91 : Nat) ({ cls := "java/lang/StringBuilder", name := "<init>", desc := "()V" } : Jvm.MethodName)) ∈ lw_all := lw_g (lw_at lw_m6 164 rfl) rfl
theorem q1493 : (Jvm.Cond.stringRef "jdk/internal/util/ArraysSupport" (92 : Nat) "unrecognized basic type: ") ∈ lw_tbl := lw_at lw_m6 165 rfl
theorem q1494 : (Jvm.Cond.methodLink "jdk/internal/util/ArraysSupport" (94 : Nat) ({ cls := "java/lang/StringBuilder", name := "append", desc := "(Ljava/lang/String;)Ljava/lang/StringBuilder;" } : Jvm.MethodName)) ∈ lw_all := lw_g (lw_at lw_m6 166 rfl) rfl
theorem q1495 : (Jvm.Cond.methodLink "jdk/internal/util/ArraysSupport" (98 : Nat) ({ cls := "java/lang/StringBuilder", name := "append", desc := "(I)Ljava/lang/StringBuilder;" } : Jvm.MethodName)) ∈ lw_all := lw_g (lw_at lw_m6 167 rfl) rfl
theorem q1496 : (Jvm.Cond.methodLink "jdk/internal/util/ArraysSupport" (101 : Nat) ({ cls := "java/lang/StringBuilder", name := "toString", desc := "()Ljava/lang/String;" } : Jvm.MethodName)) ∈ lw_all := lw_g (lw_at lw_m6 168 rfl) rfl
theorem q1497 : (Jvm.Cond.methodLink "jdk/internal/util/ArraysSupport" (105 : Nat) ({ cls := "java/lang/IllegalArgumentException", name := "<init>", desc := "(Ljava/lang/String;)V" } : Jvm.MethodName)) ∈ lw_all := lw_g (lw_at lw_m6 169 rfl) rfl
/-! java/lang/Math -/
set_option maxRecDepth 100000
def RJ12 : String := "java/lang/Math"
abbrev cJ12_max : ByteArray := prog_32_method_65_code
def yJ12_max : MethodName := ⟨RJ12, "max", "(II)I"⟩
def dkwJ12_max_0 : List UInt8 := [26, 27, 161, 0, 7, 26, 167, 0, 4, 27, 172]
abbrev dktJ12_max_0 : List UInt8 := dkwJ12_max_0 ++ []
theorem dksJ12_max_0 : cJ12_max.data.toList.drop 0 = dktJ12_max_0 := by decide +kernel
theorem dJ12_max_0 : decode cJ12_max 0 = .ok (.iload_n 0, 1) := dk_26 (dk_at dksJ12_max_0 0 rfl rfl)
theorem dJ12_max_1 : decode cJ12_max 1 = .ok (.iload_n 1, 1) := dk_27 (dk_at dksJ12_max_0 1 rfl rfl)
theorem dJ12_max_2 : decode cJ12_max 2 = .ok (.if_icmp .lt 7, 3) := dk_161 0 7 (dk_at dksJ12_max_0 2 rfl rfl)
theorem dJ12_max_5 : decode cJ12_max 5 = .ok (.iload_n 0, 1) := dk_26 (dk_at dksJ12_max_0 5 rfl rfl)
theorem dJ12_max_6 : decode cJ12_max 6 = .ok (.goto 4, 3) := dk_167 0 4 (dk_at dksJ12_max_0 6 rfl rfl)
theorem dJ12_max_9 : decode cJ12_max 9 = .ok (.iload_n 1, 1) := dk_27 (dk_at dksJ12_max_0 9 rfl rfl)
theorem dJ12_max_10 : decode cJ12_max 10 = .ok (.ireturn, 1) := dk_172 (dk_at dksJ12_max_0 10 rfl rfl)
abbrev cJ12_min : ByteArray := prog_32_method_69_code
def yJ12_min : MethodName := ⟨RJ12, "min", "(II)I"⟩
def dkwJ12_min_0 : List UInt8 := [26, 27, 163, 0, 7, 26, 167, 0, 4, 27, 172]
abbrev dktJ12_min_0 : List UInt8 := dkwJ12_min_0 ++ []
theorem dksJ12_min_0 : cJ12_min.data.toList.drop 0 = dktJ12_min_0 := by decide +kernel
theorem dJ12_min_0 : decode cJ12_min 0 = .ok (.iload_n 0, 1) := dk_26 (dk_at dksJ12_min_0 0 rfl rfl)
theorem dJ12_min_1 : decode cJ12_min 1 = .ok (.iload_n 1, 1) := dk_27 (dk_at dksJ12_min_0 1 rfl rfl)
theorem dJ12_min_2 : decode cJ12_min 2 = .ok (.if_icmp .gt 7, 3) := dk_163 0 7 (dk_at dksJ12_min_0 2 rfl rfl)
theorem dJ12_min_5 : decode cJ12_min 5 = .ok (.iload_n 0, 1) := dk_26 (dk_at dksJ12_min_0 5 rfl rfl)
theorem dJ12_min_6 : decode cJ12_min 6 = .ok (.goto 4, 3) := dk_167 0 4 (dk_at dksJ12_min_0 6 rfl rfl)
theorem dJ12_min_9 : decode cJ12_min 9 = .ok (.iload_n 1, 1) := dk_27 (dk_at dksJ12_min_0 9 rfl rfl)
theorem dJ12_min_10 : decode cJ12_min 10 = .ok (.ireturn, 1) := dk_172 (dk_at dksJ12_min_0 10 rfl rfl)
abbrev cJ12_max_2 : ByteArray := prog_32_method_66_code
def yJ12_max_2 : MethodName := ⟨RJ12, "max", "(JJ)J"⟩
def dkwJ12_max_2_0 : List UInt8 := [30, 32, 148, 155, 0, 7, 30, 167, 0, 4, 32, 173]
abbrev dktJ12_max_2_0 : List UInt8 := dkwJ12_max_2_0 ++ []
theorem dksJ12_max_2_0 : cJ12_max_2.data.toList.drop 0 = dktJ12_max_2_0 := by decide +kernel
theorem dJ12_max_2_0 : decode cJ12_max_2 0 = .ok (.lload_n 0, 1) := dk_30 (dk_at dksJ12_max_2_0 0 rfl rfl)
theorem dJ12_max_2_1 : decode cJ12_max_2 1 = .ok (.lload_n 2, 1) := dk_32 (dk_at dksJ12_max_2_0 1 rfl rfl)
theorem dJ12_max_2_2 : decode cJ12_max_2 2 = .ok (.lcmp, 1) := dk_148 (dk_at dksJ12_max_2_0 2 rfl rfl)
theorem dJ12_max_2_3 : decode cJ12_max_2 3 = .ok (.ifCond .lt 7, 3) := dk_155 0 7 (dk_at dksJ12_max_2_0 3 rfl rfl)
theorem dJ12_max_2_6 : decode cJ12_max_2 6 = .ok (.lload_n 0, 1) := dk_30 (dk_at dksJ12_max_2_0 6 rfl rfl)
theorem dJ12_max_2_7 : decode cJ12_max_2 7 = .ok (.goto 4, 3) := dk_167 0 4 (dk_at dksJ12_max_2_0 7 rfl rfl)
theorem dJ12_max_2_10 : decode cJ12_max_2 10 = .ok (.lload_n 2, 1) := dk_32 (dk_at dksJ12_max_2_0 10 rfl rfl)
theorem dJ12_max_2_11 : decode cJ12_max_2 11 = .ok (.lreturn, 1) := dk_173 (dk_at dksJ12_max_2_0 11 rfl rfl)
abbrev cJ12_min_2 : ByteArray := prog_32_method_70_code
def yJ12_min_2 : MethodName := ⟨RJ12, "min", "(JJ)J"⟩
def dkwJ12_min_2_0 : List UInt8 := [30, 32, 148, 157, 0, 7, 30, 167, 0, 4, 32, 173]
abbrev dktJ12_min_2_0 : List UInt8 := dkwJ12_min_2_0 ++ []
theorem dksJ12_min_2_0 : cJ12_min_2.data.toList.drop 0 = dktJ12_min_2_0 := by decide +kernel
theorem dJ12_min_2_0 : decode cJ12_min_2 0 = .ok (.lload_n 0, 1) := dk_30 (dk_at dksJ12_min_2_0 0 rfl rfl)
theorem dJ12_min_2_1 : decode cJ12_min_2 1 = .ok (.lload_n 2, 1) := dk_32 (dk_at dksJ12_min_2_0 1 rfl rfl)
theorem dJ12_min_2_2 : decode cJ12_min_2 2 = .ok (.lcmp, 1) := dk_148 (dk_at dksJ12_min_2_0 2 rfl rfl)
theorem dJ12_min_2_3 : decode cJ12_min_2 3 = .ok (.ifCond .gt 7, 3) := dk_157 0 7 (dk_at dksJ12_min_2_0 3 rfl rfl)
theorem dJ12_min_2_6 : decode cJ12_min_2 6 = .ok (.lload_n 0, 1) := dk_30 (dk_at dksJ12_min_2_0 6 rfl rfl)
theorem dJ12_min_2_7 : decode cJ12_min_2 7 = .ok (.goto 4, 3) := dk_167 0 4 (dk_at dksJ12_min_2_0 7 rfl rfl)
theorem dJ12_min_2_10 : decode cJ12_min_2 10 = .ok (.lload_n 2, 1) := dk_32 (dk_at dksJ12_min_2_0 10 rfl rfl)
theorem dJ12_min_2_11 : decode cJ12_min_2 11 = .ok (.lreturn, 1) := dk_173 (dk_at dksJ12_min_2_0 11 rfl rfl)
abbrev cJ12_abs : ByteArray := prog_32_method_59_code
def yJ12_abs : MethodName := ⟨RJ12, "abs", "(I)I"⟩
def dkwJ12_abs_0 : List UInt8 := [26, 156, 0, 8, 26, 116, 167, 0, 4, 26, 172]
abbrev dktJ12_abs_0 : List UInt8 := dkwJ12_abs_0 ++ []
theorem dksJ12_abs_0 : cJ12_abs.data.toList.drop 0 = dktJ12_abs_0 := by decide +kernel
theorem dJ12_abs_0 : decode cJ12_abs 0 = .ok (.iload_n 0, 1) := dk_26 (dk_at dksJ12_abs_0 0 rfl rfl)
theorem dJ12_abs_1 : decode cJ12_abs 1 = .ok (.ifCond .ge 8, 3) := dk_156 0 8 (dk_at dksJ12_abs_0 1 rfl rfl)
theorem dJ12_abs_4 : decode cJ12_abs 4 = .ok (.iload_n 0, 1) := dk_26 (dk_at dksJ12_abs_0 4 rfl rfl)
theorem dJ12_abs_5 : decode cJ12_abs 5 = .ok (.ineg, 1) := dk_116 (dk_at dksJ12_abs_0 5 rfl rfl)
theorem dJ12_abs_6 : decode cJ12_abs 6 = .ok (.goto 4, 3) := dk_167 0 4 (dk_at dksJ12_abs_0 6 rfl rfl)
theorem dJ12_abs_9 : decode cJ12_abs 9 = .ok (.iload_n 0, 1) := dk_26 (dk_at dksJ12_abs_0 9 rfl rfl)
theorem dJ12_abs_10 : decode cJ12_abs 10 = .ok (.ireturn, 1) := dk_172 (dk_at dksJ12_abs_0 10 rfl rfl)
abbrev cJ12_abs_2 : ByteArray := prog_32_method_61_code
def yJ12_abs_2 : MethodName := ⟨RJ12, "abs", "(J)J"⟩
def dkwJ12_abs_2_0 : List UInt8 := [30, 9, 148, 156, 0, 8, 30, 117, 167, 0, 4, 30, 173]
abbrev dktJ12_abs_2_0 : List UInt8 := dkwJ12_abs_2_0 ++ []
theorem dksJ12_abs_2_0 : cJ12_abs_2.data.toList.drop 0 = dktJ12_abs_2_0 := by decide +kernel
theorem dJ12_abs_2_0 : decode cJ12_abs_2 0 = .ok (.lload_n 0, 1) := dk_30 (dk_at dksJ12_abs_2_0 0 rfl rfl)
theorem dJ12_abs_2_1 : decode cJ12_abs_2 1 = .ok (.lconst 0, 1) := dk_9 (dk_at dksJ12_abs_2_0 1 rfl rfl)
theorem dJ12_abs_2_2 : decode cJ12_abs_2 2 = .ok (.lcmp, 1) := dk_148 (dk_at dksJ12_abs_2_0 2 rfl rfl)
theorem dJ12_abs_2_3 : decode cJ12_abs_2 3 = .ok (.ifCond .ge 8, 3) := dk_156 0 8 (dk_at dksJ12_abs_2_0 3 rfl rfl)
theorem dJ12_abs_2_6 : decode cJ12_abs_2 6 = .ok (.lload_n 0, 1) := dk_30 (dk_at dksJ12_abs_2_0 6 rfl rfl)
theorem dJ12_abs_2_7 : decode cJ12_abs_2 7 = .ok (.lneg, 1) := dk_117 (dk_at dksJ12_abs_2_0 7 rfl rfl)
theorem dJ12_abs_2_8 : decode cJ12_abs_2 8 = .ok (.goto 4, 3) := dk_167 0 4 (dk_at dksJ12_abs_2_0 8 rfl rfl)
theorem dJ12_abs_2_11 : decode cJ12_abs_2 11 = .ok (.lload_n 0, 1) := dk_30 (dk_at dksJ12_abs_2_0 11 rfl rfl)
theorem dJ12_abs_2_12 : decode cJ12_abs_2 12 = .ok (.lreturn, 1) := dk_173 (dk_at dksJ12_abs_2_0 12 rfl rfl)
theorem q143 : (Jvm.Cond.initialized "java/lang/Math") ∈ lw_all := lw_g (lw_at lw_m1 15 rfl) rfl
theorem q307 : (Jvm.Cond.static ({ cls := "java/lang/Math", name := "max", desc := "(II)I" } : Jvm.MethodName)) ∈ lw_all := lw_g (lw_at lw_m1 179 rfl) rfl
theorem q308 : (Jvm.Cond.code ({ cls := "java/lang/Math", name := "max", desc := "(II)I" } : Jvm.MethodName) prog_32_method_65_code (2 : Nat) (Option.some Jvm.ClassFile.FieldType.int)) ∈ lw_all := lw_g (lw_at lw_m1 180 rfl) rfl
theorem q325 : (Jvm.Cond.static ({ cls := "java/lang/Math", name := "min", desc := "(II)I" } : Jvm.MethodName)) ∈ lw_all := lw_g (lw_at lw_m1 197 rfl) rfl
theorem q326 : (Jvm.Cond.code ({ cls := "java/lang/Math", name := "min", desc := "(II)I" } : Jvm.MethodName) prog_32_method_69_code (2 : Nat) (Option.some Jvm.ClassFile.FieldType.int)) ∈ lw_all := lw_g (lw_at lw_m1 198 rfl) rfl
theorem q825 : (Jvm.Cond.static ({ cls := "java/lang/Math", name := "max", desc := "(JJ)J" } : Jvm.MethodName)) ∈ lw_all := lw_g (lw_at lw_m3 217 rfl) rfl
theorem q826 : (Jvm.Cond.code ({ cls := "java/lang/Math", name := "max", desc := "(JJ)J" } : Jvm.MethodName) prog_32_method_66_code (4 : Nat) (Option.some Jvm.ClassFile.FieldType.long)) ∈ lw_all := lw_g (lw_at lw_m3 218 rfl) rfl
theorem q1955 : (Jvm.Cond.static ({ cls := "java/lang/Math", name := "min", desc := "(JJ)J" } : Jvm.MethodName)) ∈ lw_all := lw_g (lw_at lw_m8 147 rfl) rfl
theorem q1956 : (Jvm.Cond.code ({ cls := "java/lang/Math", name := "min", desc := "(JJ)J" } : Jvm.MethodName) prog_32_method_70_code (4 : Nat) (Option.some Jvm.ClassFile.FieldType.long)) ∈ lw_all := lw_g (lw_at lw_m8 148 rfl) rfl
theorem q2085 : (Jvm.Cond.static ({ cls := "java/lang/Math", name := "abs", desc := "(I)I" } : Jvm.MethodName)) ∈ lw_all := lw_g (lw_at lw_m9 37 rfl) rfl
theorem q2086 : (Jvm.Cond.code ({ cls := "java/lang/Math", name := "abs", desc := "(I)I" } : Jvm.MethodName) prog_32_method_59_code (1 : Nat) (Option.some Jvm.ClassFile.FieldType.int)) ∈ lw_all := lw_g (lw_at lw_m9 38 rfl) rfl
theorem q2499 : (Jvm.Cond.static ({ cls := "java/lang/Math", name := "abs", desc := "(J)J" } : Jvm.MethodName)) ∈ lw_all := lw_g (lw_at lw_m10 211 rfl) rfl
theorem q2500 : (Jvm.Cond.code ({ cls := "java/lang/Math", name := "abs", desc := "(J)J" } : Jvm.MethodName) prog_32_method_61_code (2 : Nat) (Option.some Jvm.ClassFile.FieldType.long)) ∈ lw_all := lw_g (lw_at lw_m10 212 rfl) rfl
/-! java/util/Arrays -/
set_option maxRecDepth 100000
def RJ13 : String := "java/util/Arrays"
abbrev cJ13_copyOf : ByteArray := prog_51_method_121_code
def yJ13_copyOf : MethodName := ⟨RJ13, "copyOf", "([BI)[B"⟩
def dkwJ13_copyOf_1 : List UInt8 := [27, 184, 1, 48, 184, 0, 150, 44, 176]
abbrev dktJ13_copyOf_1 : List UInt8 := dkwJ13_copyOf_1 ++ []
def dkwJ13_copyOf_0 : List UInt8 := [27, 42, 190, 160, 0, 11, 42, 182, 1, 54, 192, 1, 55, 176, 27, 188, 8, 77, 42, 3, 44, 3, 42, 190]
abbrev dktJ13_copyOf_0 : List UInt8 := dkwJ13_copyOf_0 ++ dktJ13_copyOf_1
theorem dksJ13_copyOf_0 : cJ13_copyOf.data.toList.drop 0 = dktJ13_copyOf_0 := by decide +kernel
theorem dksJ13_copyOf_1 : cJ13_copyOf.data.toList.drop 24 = dktJ13_copyOf_1 := dk_seg dksJ13_copyOf_0 24 rfl rfl
theorem dJ13_copyOf_0 : decode cJ13_copyOf 0 = .ok (.iload_n 1, 1) := dk_27 (dk_at dksJ13_copyOf_0 0 rfl rfl)
theorem dJ13_copyOf_1 : decode cJ13_copyOf 1 = .ok (.aload_n 0, 1) := dk_42 (dk_at dksJ13_copyOf_0 1 rfl rfl)
theorem dJ13_copyOf_2 : decode cJ13_copyOf 2 = .ok (.arraylength, 1) := dk_190 (dk_at dksJ13_copyOf_0 2 rfl rfl)
theorem dJ13_copyOf_3 : decode cJ13_copyOf 3 = .ok (.if_icmp .ne 11, 3) := dk_160 0 11 (dk_at dksJ13_copyOf_0 3 rfl rfl)
theorem dJ13_copyOf_6 : decode cJ13_copyOf 6 = .ok (.aload_n 0, 1) := dk_42 (dk_at dksJ13_copyOf_0 6 rfl rfl)
theorem dJ13_copyOf_7 : decode cJ13_copyOf 7 = .ok (.invokevirtual 310, 3) := dk_182 1 54 (dk_at dksJ13_copyOf_0 7 rfl rfl)
theorem dJ13_copyOf_10 : decode cJ13_copyOf 10 = .ok (.checkcast 311, 3) := dk_192 1 55 (dk_at dksJ13_copyOf_0 10 rfl rfl)
theorem dJ13_copyOf_13 : decode cJ13_copyOf 13 = .ok (.areturn, 1) := dk_176 (dk_at dksJ13_copyOf_0 13 rfl rfl)
theorem dJ13_copyOf_14 : decode cJ13_copyOf 14 = .ok (.iload_n 1, 1) := dk_27 (dk_at dksJ13_copyOf_0 14 rfl rfl)
theorem dJ13_copyOf_15 : decode cJ13_copyOf 15 = .ok (.newarray .byte, 2) := dk_188_8 (dk_at dksJ13_copyOf_0 15 rfl rfl)
theorem dJ13_copyOf_17 : decode cJ13_copyOf 17 = .ok (.astore_n 2, 1) := dk_77 (dk_at dksJ13_copyOf_0 17 rfl rfl)
theorem dJ13_copyOf_18 : decode cJ13_copyOf 18 = .ok (.aload_n 0, 1) := dk_42 (dk_at dksJ13_copyOf_0 18 rfl rfl)
theorem dJ13_copyOf_19 : decode cJ13_copyOf 19 = .ok (.iconst 0, 1) := dk_3 (dk_at dksJ13_copyOf_0 19 rfl rfl)
theorem dJ13_copyOf_20 : decode cJ13_copyOf 20 = .ok (.aload_n 2, 1) := dk_44 (dk_at dksJ13_copyOf_0 20 rfl rfl)
theorem dJ13_copyOf_21 : decode cJ13_copyOf 21 = .ok (.iconst 0, 1) := dk_3 (dk_at dksJ13_copyOf_0 21 rfl rfl)
theorem dJ13_copyOf_22 : decode cJ13_copyOf 22 = .ok (.aload_n 0, 1) := dk_42 (dk_at dksJ13_copyOf_0 22 rfl rfl)
theorem dJ13_copyOf_23 : decode cJ13_copyOf 23 = .ok (.arraylength, 1) := dk_190 (dk_at dksJ13_copyOf_0 23 rfl rfl)
theorem dJ13_copyOf_24 : decode cJ13_copyOf 24 = .ok (.iload_n 1, 1) := dk_27 (dk_at dksJ13_copyOf_1 0 rfl rfl)
theorem dJ13_copyOf_25 : decode cJ13_copyOf 25 = .ok (.invokestatic 304, 3) := dk_184 1 48 (dk_at dksJ13_copyOf_1 1 rfl rfl)
theorem dJ13_copyOf_28 : decode cJ13_copyOf 28 = .ok (.invokestatic 150, 3) := dk_184 0 150 (dk_at dksJ13_copyOf_1 4 rfl rfl)
theorem dJ13_copyOf_31 : decode cJ13_copyOf 31 = .ok (.aload_n 2, 1) := dk_44 (dk_at dksJ13_copyOf_1 7 rfl rfl)
theorem dJ13_copyOf_32 : decode cJ13_copyOf 32 = .ok (.areturn, 1) := dk_176 (dk_at dksJ13_copyOf_1 8 rfl rfl)
abbrev cJ13_copyOfRange : ByteArray := prog_51_method_132_code
def yJ13_copyOfRange : MethodName := ⟨RJ13, "copyOfRange", "([BII)[B"⟩
def dkwJ13_copyOfRange_1 : List UInt8 := [176]
abbrev dktJ13_copyOfRange_1 : List UInt8 := dkwJ13_copyOfRange_1 ++ []
def dkwJ13_copyOfRange_0 : List UInt8 := [27, 154, 0, 9, 28, 42, 190, 159, 0, 10, 42, 27, 28, 184, 1, 83, 176, 42, 182, 1, 54, 192, 1, 55]
abbrev dktJ13_copyOfRange_0 : List UInt8 := dkwJ13_copyOfRange_0 ++ dktJ13_copyOfRange_1
theorem dksJ13_copyOfRange_0 : cJ13_copyOfRange.data.toList.drop 0 = dktJ13_copyOfRange_0 := by decide +kernel
theorem dksJ13_copyOfRange_1 : cJ13_copyOfRange.data.toList.drop 24 = dktJ13_copyOfRange_1 := dk_seg dksJ13_copyOfRange_0 24 rfl rfl
theorem dJ13_copyOfRange_0 : decode cJ13_copyOfRange 0 = .ok (.iload_n 1, 1) := dk_27 (dk_at dksJ13_copyOfRange_0 0 rfl rfl)
theorem dJ13_copyOfRange_1 : decode cJ13_copyOfRange 1 = .ok (.ifCond .ne 9, 3) := dk_154 0 9 (dk_at dksJ13_copyOfRange_0 1 rfl rfl)
theorem dJ13_copyOfRange_4 : decode cJ13_copyOfRange 4 = .ok (.iload_n 2, 1) := dk_28 (dk_at dksJ13_copyOfRange_0 4 rfl rfl)
theorem dJ13_copyOfRange_5 : decode cJ13_copyOfRange 5 = .ok (.aload_n 0, 1) := dk_42 (dk_at dksJ13_copyOfRange_0 5 rfl rfl)
theorem dJ13_copyOfRange_6 : decode cJ13_copyOfRange 6 = .ok (.arraylength, 1) := dk_190 (dk_at dksJ13_copyOfRange_0 6 rfl rfl)
theorem dJ13_copyOfRange_7 : decode cJ13_copyOfRange 7 = .ok (.if_icmp .eq 10, 3) := dk_159 0 10 (dk_at dksJ13_copyOfRange_0 7 rfl rfl)
theorem dJ13_copyOfRange_10 : decode cJ13_copyOfRange 10 = .ok (.aload_n 0, 1) := dk_42 (dk_at dksJ13_copyOfRange_0 10 rfl rfl)
theorem dJ13_copyOfRange_11 : decode cJ13_copyOfRange 11 = .ok (.iload_n 1, 1) := dk_27 (dk_at dksJ13_copyOfRange_0 11 rfl rfl)
theorem dJ13_copyOfRange_12 : decode cJ13_copyOfRange 12 = .ok (.iload_n 2, 1) := dk_28 (dk_at dksJ13_copyOfRange_0 12 rfl rfl)
theorem dJ13_copyOfRange_13 : decode cJ13_copyOfRange 13 = .ok (.invokestatic 339, 3) := dk_184 1 83 (dk_at dksJ13_copyOfRange_0 13 rfl rfl)
theorem dJ13_copyOfRange_16 : decode cJ13_copyOfRange 16 = .ok (.areturn, 1) := dk_176 (dk_at dksJ13_copyOfRange_0 16 rfl rfl)
theorem dJ13_copyOfRange_17 : decode cJ13_copyOfRange 17 = .ok (.aload_n 0, 1) := dk_42 (dk_at dksJ13_copyOfRange_0 17 rfl rfl)
theorem dJ13_copyOfRange_18 : decode cJ13_copyOfRange 18 = .ok (.invokevirtual 310, 3) := dk_182 1 54 (dk_at dksJ13_copyOfRange_0 18 rfl rfl)
theorem dJ13_copyOfRange_21 : decode cJ13_copyOfRange 21 = .ok (.checkcast 311, 3) := dk_192 1 55 (dk_at dksJ13_copyOfRange_0 21 rfl rfl)
theorem dJ13_copyOfRange_24 : decode cJ13_copyOfRange 24 = .ok (.areturn, 1) := dk_176 (dk_at dksJ13_copyOfRange_1 0 rfl rfl)
abbrev cJ13_copyOfRangeByte : ByteArray := prog_51_method_133_code
def yJ13_copyOfRangeByte : MethodName := ⟨RJ13, "copyOfRangeByte", "([BII)[B"⟩
def dkwJ13_copyOfRangeByte_1 : List UInt8 := [184, 1, 48, 184, 0, 150, 25, 4, 176]
abbrev dktJ13_copyOfRangeByte_1 : List UInt8 := dkwJ13_copyOfRangeByte_1 ++ []
def dkwJ13_copyOfRangeByte_0 : List UInt8 := [27, 28, 184, 1, 87, 28, 27, 100, 62, 29, 188, 8, 58, 4, 42, 27, 25, 4, 3, 42, 190, 27, 100, 29]
abbrev dktJ13_copyOfRangeByte_0 : List UInt8 := dkwJ13_copyOfRangeByte_0 ++ dktJ13_copyOfRangeByte_1
theorem dksJ13_copyOfRangeByte_0 : cJ13_copyOfRangeByte.data.toList.drop 0 = dktJ13_copyOfRangeByte_0 := by decide +kernel
theorem dksJ13_copyOfRangeByte_1 : cJ13_copyOfRangeByte.data.toList.drop 24 = dktJ13_copyOfRangeByte_1 := dk_seg dksJ13_copyOfRangeByte_0 24 rfl rfl
theorem dJ13_copyOfRangeByte_0 : decode cJ13_copyOfRangeByte 0 = .ok (.iload_n 1, 1) := dk_27 (dk_at dksJ13_copyOfRangeByte_0 0 rfl rfl)
theorem dJ13_copyOfRangeByte_1 : decode cJ13_copyOfRangeByte 1 = .ok (.iload_n 2, 1) := dk_28 (dk_at dksJ13_copyOfRangeByte_0 1 rfl rfl)
theorem dJ13_copyOfRangeByte_2 : decode cJ13_copyOfRangeByte 2 = .ok (.invokestatic 343, 3) := dk_184 1 87 (dk_at dksJ13_copyOfRangeByte_0 2 rfl rfl)
theorem dJ13_copyOfRangeByte_5 : decode cJ13_copyOfRangeByte 5 = .ok (.iload_n 2, 1) := dk_28 (dk_at dksJ13_copyOfRangeByte_0 5 rfl rfl)
theorem dJ13_copyOfRangeByte_6 : decode cJ13_copyOfRangeByte 6 = .ok (.iload_n 1, 1) := dk_27 (dk_at dksJ13_copyOfRangeByte_0 6 rfl rfl)
theorem dJ13_copyOfRangeByte_7 : decode cJ13_copyOfRangeByte 7 = .ok (.isub, 1) := dk_100 (dk_at dksJ13_copyOfRangeByte_0 7 rfl rfl)
theorem dJ13_copyOfRangeByte_8 : decode cJ13_copyOfRangeByte 8 = .ok (.istore_n 3, 1) := dk_62 (dk_at dksJ13_copyOfRangeByte_0 8 rfl rfl)
theorem dJ13_copyOfRangeByte_9 : decode cJ13_copyOfRangeByte 9 = .ok (.iload_n 3, 1) := dk_29 (dk_at dksJ13_copyOfRangeByte_0 9 rfl rfl)
theorem dJ13_copyOfRangeByte_10 : decode cJ13_copyOfRangeByte 10 = .ok (.newarray .byte, 2) := dk_188_8 (dk_at dksJ13_copyOfRangeByte_0 10 rfl rfl)
theorem dJ13_copyOfRangeByte_12 : decode cJ13_copyOfRangeByte 12 = .ok (.astore 4, 2) := dk_58 4 (dk_at dksJ13_copyOfRangeByte_0 12 rfl rfl)
theorem dJ13_copyOfRangeByte_14 : decode cJ13_copyOfRangeByte 14 = .ok (.aload_n 0, 1) := dk_42 (dk_at dksJ13_copyOfRangeByte_0 14 rfl rfl)
theorem dJ13_copyOfRangeByte_15 : decode cJ13_copyOfRangeByte 15 = .ok (.iload_n 1, 1) := dk_27 (dk_at dksJ13_copyOfRangeByte_0 15 rfl rfl)
theorem dJ13_copyOfRangeByte_16 : decode cJ13_copyOfRangeByte 16 = .ok (.aload 4, 2) := dk_25 4 (dk_at dksJ13_copyOfRangeByte_0 16 rfl rfl)
theorem dJ13_copyOfRangeByte_18 : decode cJ13_copyOfRangeByte 18 = .ok (.iconst 0, 1) := dk_3 (dk_at dksJ13_copyOfRangeByte_0 18 rfl rfl)
theorem dJ13_copyOfRangeByte_19 : decode cJ13_copyOfRangeByte 19 = .ok (.aload_n 0, 1) := dk_42 (dk_at dksJ13_copyOfRangeByte_0 19 rfl rfl)
theorem dJ13_copyOfRangeByte_20 : decode cJ13_copyOfRangeByte 20 = .ok (.arraylength, 1) := dk_190 (dk_at dksJ13_copyOfRangeByte_0 20 rfl rfl)
theorem dJ13_copyOfRangeByte_21 : decode cJ13_copyOfRangeByte 21 = .ok (.iload_n 1, 1) := dk_27 (dk_at dksJ13_copyOfRangeByte_0 21 rfl rfl)
theorem dJ13_copyOfRangeByte_22 : decode cJ13_copyOfRangeByte 22 = .ok (.isub, 1) := dk_100 (dk_at dksJ13_copyOfRangeByte_0 22 rfl rfl)
theorem dJ13_copyOfRangeByte_23 : decode cJ13_copyOfRangeByte 23 = .ok (.iload_n 3, 1) := dk_29 (dk_at dksJ13_copyOfRangeByte_0 23 rfl rfl)
theorem dJ13_copyOfRangeByte_24 : decode cJ13_copyOfRangeByte 24 = .ok (.invokestatic 304, 3) := dk_184 1 48 (dk_at dksJ13_copyOfRangeByte_1 0 rfl rfl)
theorem dJ13_copyOfRangeByte_27 : decode cJ13_copyOfRangeByte 27 = .ok (.invokestatic 150, 3) := dk_184 0 150 (dk_at dksJ13_copyOfRangeByte_1 3 rfl rfl)
theorem dJ13_copyOfRangeByte_30 : decode cJ13_copyOfRangeByte 30 = .ok (.aload 4, 2) := dk_25 4 (dk_at dksJ13_copyOfRangeByte_1 6 rfl rfl)
theorem dJ13_copyOfRangeByte_32 : decode cJ13_copyOfRangeByte 32 = .ok (.areturn, 1) := dk_176 (dk_at dksJ13_copyOfRangeByte_1 8 rfl rfl)
abbrev cJ13_checkLength : ByteArray := prog_51_method_131_code
def yJ13_checkLength : MethodName := ⟨RJ13, "checkLength", "(II)V"⟩
def dkwJ13_checkLength_1 : List UInt8 := [182, 0, 50, 27, 182, 0, 54, 182, 0, 61, 183, 0, 65, 191, 177]
abbrev dktJ13_checkLength_1 : List UInt8 := dkwJ13_checkLength_1 ++ []
def dkwJ13_checkLength_0 : List UInt8 := [27, 26, 162, 0, 35, 187, 0, 43, 89, 187, 0, 45, 89, 183, 0, 47, 26, 182, 0, 54, 19, 1, 81]
abbrev dktJ13_checkLength_0 : List UInt8 := dkwJ13_checkLength_0 ++ dktJ13_checkLength_1
theorem dksJ13_checkLength_0 : cJ13_checkLength.data.toList.drop 0 = dktJ13_checkLength_0 := by decide +kernel
theorem dksJ13_checkLength_1 : cJ13_checkLength.data.toList.drop 23 = dktJ13_checkLength_1 := dk_seg dksJ13_checkLength_0 23 rfl rfl
theorem dJ13_checkLength_0 : decode cJ13_checkLength 0 = .ok (.iload_n 1, 1) := dk_27 (dk_at dksJ13_checkLength_0 0 rfl rfl)
theorem dJ13_checkLength_1 : decode cJ13_checkLength 1 = .ok (.iload_n 0, 1) := dk_26 (dk_at dksJ13_checkLength_0 1 rfl rfl)
theorem dJ13_checkLength_2 : decode cJ13_checkLength 2 = .ok (.if_icmp .ge 35, 3) := dk_162 0 35 (dk_at dksJ13_checkLength_0 2 rfl rfl)
theorem dJ13_checkLength_5 : decode cJ13_checkLength 5 = .ok (.new 43, 3) := dk_187 0 43 (dk_at dksJ13_checkLength_0 5 rfl rfl)
theorem dJ13_checkLength_8 : decode cJ13_checkLength 8 = .ok (.dup, 1) := dk_89 (dk_at dksJ13_checkLength_0 8 rfl rfl)
theorem dJ13_checkLength_9 : decode cJ13_checkLength 9 = .ok (.new 45, 3) := dk_187 0 45 (dk_at dksJ13_checkLength_0 9 rfl rfl)
theorem dJ13_checkLength_12 : decode cJ13_checkLength 12 = .ok (.dup, 1) := dk_89 (dk_at dksJ13_checkLength_0 12 rfl rfl)
theorem dJ13_checkLength_13 : decode cJ13_checkLength 13 = .ok (.invokespecial 47, 3) := dk_183 0 47 (dk_at dksJ13_checkLength_0 13 rfl rfl)
theorem dJ13_checkLength_16 : decode cJ13_checkLength 16 = .ok (.iload_n 0, 1) := dk_26 (dk_at dksJ13_checkLength_0 16 rfl rfl)
theorem dJ13_checkLength_17 : decode cJ13_checkLength 17 = .ok (.invokevirtual 54, 3) := dk_182 0 54 (dk_at dksJ13_checkLength_0 17 rfl rfl)
theorem dJ13_checkLength_20 : decode cJ13_checkLength 20 = .ok (.ldc_w 337, 3) := dk_19 1 81 (dk_at dksJ13_checkLength_0 20 rfl rfl)
theorem dJ13_checkLength_23 : decode cJ13_checkLength 23 = .ok (.invokevirtual 50, 3) := dk_182 0 50 (dk_at dksJ13_checkLength_1 0 rfl rfl)
theorem dJ13_checkLength_26 : decode cJ13_checkLength 26 = .ok (.iload_n 1, 1) := dk_27 (dk_at dksJ13_checkLength_1 3 rfl rfl)
theorem dJ13_checkLength_27 : decode cJ13_checkLength 27 = .ok (.invokevirtual 54, 3) := dk_182 0 54 (dk_at dksJ13_checkLength_1 4 rfl rfl)
theorem dJ13_checkLength_30 : decode cJ13_checkLength 30 = .ok (.invokevirtual 61, 3) := dk_182 0 61 (dk_at dksJ13_checkLength_1 7 rfl rfl)
theorem dJ13_checkLength_33 : decode cJ13_checkLength 33 = .ok (.invokespecial 65, 3) := dk_183 0 65 (dk_at dksJ13_checkLength_1 10 rfl rfl)
theorem dJ13_checkLength_36 : decode cJ13_checkLength 36 = .ok (.athrow, 1) := dk_191 (dk_at dksJ13_checkLength_1 13 rfl rfl)
theorem dJ13_checkLength_37 : decode cJ13_checkLength 37 = .ok (.return_, 1) := dk_177 (dk_at dksJ13_checkLength_1 14 rfl rfl)
abbrev cJ13_copyOf_2 : ByteArray := prog_51_method_119_code
def yJ13_copyOf_2 : MethodName := ⟨RJ13, "copyOf", "([Ljava/lang/Object;I)[Ljava/lang/Object;"⟩
def dkwJ13_copyOf_2_0 : List UInt8 := [42, 27, 42, 182, 0, 86, 184, 1, 44, 176]
abbrev dktJ13_copyOf_2_0 : List UInt8 := dkwJ13_copyOf_2_0 ++ []
theorem dksJ13_copyOf_2_0 : cJ13_copyOf_2.data.toList.drop 0 = dktJ13_copyOf_2_0 := by decide +kernel
theorem dJ13_copyOf_2_0 : decode cJ13_copyOf_2 0 = .ok (.aload_n 0, 1) := dk_42 (dk_at dksJ13_copyOf_2_0 0 rfl rfl)
theorem dJ13_copyOf_2_1 : decode cJ13_copyOf_2 1 = .ok (.iload_n 1, 1) := dk_27 (dk_at dksJ13_copyOf_2_0 1 rfl rfl)
theorem dJ13_copyOf_2_2 : decode cJ13_copyOf_2 2 = .ok (.aload_n 0, 1) := dk_42 (dk_at dksJ13_copyOf_2_0 2 rfl rfl)
theorem dJ13_copyOf_2_3 : decode cJ13_copyOf_2 3 = .ok (.invokevirtual 86, 3) := dk_182 0 86 (dk_at dksJ13_copyOf_2_0 3 rfl rfl)
theorem dJ13_copyOf_2_6 : decode cJ13_copyOf_2 6 = .ok (.invokestatic 300, 3) := dk_184 1 44 (dk_at dksJ13_copyOf_2_0 6 rfl rfl)
theorem dJ13_copyOf_2_9 : decode cJ13_copyOf_2 9 = .ok (.areturn, 1) := dk_176 (dk_at dksJ13_copyOf_2_0 9 rfl rfl)
abbrev cJ13_copyOf_3 : ByteArray := prog_51_method_120_code
def yJ13_copyOf_3 : MethodName := ⟨RJ13, "copyOf", "([Ljava/lang/Object;ILjava/lang/Class;)[Ljava/lang/Object;"⟩
def dkwJ13_copyOf_3_1 : List UInt8 := [78, 42, 3, 45, 3, 42, 190, 27, 184, 1, 48, 184, 0, 150, 45, 176]
abbrev dktJ13_copyOf_3_1 : List UInt8 := dkwJ13_copyOf_3_1 ++ []
def dkwJ13_copyOf_3_0 : List UInt8 := [44, 18, 110, 166, 0, 10, 27, 189, 0, 2, 167, 0, 14, 44, 182, 0, 90, 27, 184, 0, 95, 192, 0, 110]
abbrev dktJ13_copyOf_3_0 : List UInt8 := dkwJ13_copyOf_3_0 ++ dktJ13_copyOf_3_1
theorem dksJ13_copyOf_3_0 : cJ13_copyOf_3.data.toList.drop 0 = dktJ13_copyOf_3_0 := by decide +kernel
theorem dksJ13_copyOf_3_1 : cJ13_copyOf_3.data.toList.drop 24 = dktJ13_copyOf_3_1 := dk_seg dksJ13_copyOf_3_0 24 rfl rfl
theorem dJ13_copyOf_3_0 : decode cJ13_copyOf_3 0 = .ok (.aload_n 2, 1) := dk_44 (dk_at dksJ13_copyOf_3_0 0 rfl rfl)
theorem dJ13_copyOf_3_1 : decode cJ13_copyOf_3 1 = .ok (.ldc 110, 2) := dk_18 110 (dk_at dksJ13_copyOf_3_0 1 rfl rfl)
theorem dJ13_copyOf_3_3 : decode cJ13_copyOf_3 3 = .ok (.if_acmp .ne 10, 3) := dk_166 0 10 (dk_at dksJ13_copyOf_3_0 3 rfl rfl)
theorem dJ13_copyOf_3_6 : decode cJ13_copyOf_3 6 = .ok (.iload_n 1, 1) := dk_27 (dk_at dksJ13_copyOf_3_0 6 rfl rfl)
theorem dJ13_copyOf_3_7 : decode cJ13_copyOf_3 7 = .ok (.anewarray 2, 3) := dk_189 0 2 (dk_at dksJ13_copyOf_3_0 7 rfl rfl)
theorem dJ13_copyOf_3_10 : decode cJ13_copyOf_3 10 = .ok (.goto 14, 3) := dk_167 0 14 (dk_at dksJ13_copyOf_3_0 10 rfl rfl)
theorem dJ13_copyOf_3_13 : decode cJ13_copyOf_3 13 = .ok (.aload_n 2, 1) := dk_44 (dk_at dksJ13_copyOf_3_0 13 rfl rfl)
theorem dJ13_copyOf_3_14 : decode cJ13_copyOf_3 14 = .ok (.invokevirtual 90, 3) := dk_182 0 90 (dk_at dksJ13_copyOf_3_0 14 rfl rfl)
theorem dJ13_copyOf_3_17 : decode cJ13_copyOf_3 17 = .ok (.iload_n 1, 1) := dk_27 (dk_at dksJ13_copyOf_3_0 17 rfl rfl)
theorem dJ13_copyOf_3_18 : decode cJ13_copyOf_3 18 = .ok (.invokestatic 95, 3) := dk_184 0 95 (dk_at dksJ13_copyOf_3_0 18 rfl rfl)
theorem dJ13_copyOf_3_21 : decode cJ13_copyOf_3 21 = .ok (.checkcast 110, 3) := dk_192 0 110 (dk_at dksJ13_copyOf_3_0 21 rfl rfl)
theorem dJ13_copyOf_3_24 : decode cJ13_copyOf_3 24 = .ok (.astore_n 3, 1) := dk_78 (dk_at dksJ13_copyOf_3_1 0 rfl rfl)
theorem dJ13_copyOf_3_25 : decode cJ13_copyOf_3 25 = .ok (.aload_n 0, 1) := dk_42 (dk_at dksJ13_copyOf_3_1 1 rfl rfl)
theorem dJ13_copyOf_3_26 : decode cJ13_copyOf_3 26 = .ok (.iconst 0, 1) := dk_3 (dk_at dksJ13_copyOf_3_1 2 rfl rfl)
theorem dJ13_copyOf_3_27 : decode cJ13_copyOf_3 27 = .ok (.aload_n 3, 1) := dk_45 (dk_at dksJ13_copyOf_3_1 3 rfl rfl)
theorem dJ13_copyOf_3_28 : decode cJ13_copyOf_3 28 = .ok (.iconst 0, 1) := dk_3 (dk_at dksJ13_copyOf_3_1 4 rfl rfl)
theorem dJ13_copyOf_3_29 : decode cJ13_copyOf_3 29 = .ok (.aload_n 0, 1) := dk_42 (dk_at dksJ13_copyOf_3_1 5 rfl rfl)
theorem dJ13_copyOf_3_30 : decode cJ13_copyOf_3 30 = .ok (.arraylength, 1) := dk_190 (dk_at dksJ13_copyOf_3_1 6 rfl rfl)
theorem dJ13_copyOf_3_31 : decode cJ13_copyOf_3 31 = .ok (.iload_n 1, 1) := dk_27 (dk_at dksJ13_copyOf_3_1 7 rfl rfl)
theorem dJ13_copyOf_3_32 : decode cJ13_copyOf_3 32 = .ok (.invokestatic 304, 3) := dk_184 1 48 (dk_at dksJ13_copyOf_3_1 8 rfl rfl)
theorem dJ13_copyOf_3_35 : decode cJ13_copyOf_3 35 = .ok (.invokestatic 150, 3) := dk_184 0 150 (dk_at dksJ13_copyOf_3_1 11 rfl rfl)
theorem dJ13_copyOf_3_38 : decode cJ13_copyOf_3 38 = .ok (.aload_n 3, 1) := dk_45 (dk_at dksJ13_copyOf_3_1 14 rfl rfl)
theorem dJ13_copyOf_3_39 : decode cJ13_copyOf_3 39 = .ok (.areturn, 1) := dk_176 (dk_at dksJ13_copyOf_3_1 15 rfl rfl)
abbrev cJ13_fill : ByteArray := prog_51_method_110_code
def yJ13_fill : MethodName := ⟨RJ13, "fill", "([BIIB)V"⟩
def dkwJ13_fill_1 : List UInt8 := [167, 255, 242, 177]
abbrev dktJ13_fill_1 : List UInt8 := dkwJ13_fill_1 ++ []
def dkwJ13_fill_0 : List UInt8 := [42, 190, 27, 28, 184, 0, 13, 27, 54, 4, 21, 4, 28, 162, 0, 14, 42, 21, 4, 29, 84, 132, 4, 1]
abbrev dktJ13_fill_0 : List UInt8 := dkwJ13_fill_0 ++ dktJ13_fill_1
theorem dksJ13_fill_0 : cJ13_fill.data.toList.drop 0 = dktJ13_fill_0 := by decide +kernel
theorem dksJ13_fill_1 : cJ13_fill.data.toList.drop 24 = dktJ13_fill_1 := dk_seg dksJ13_fill_0 24 rfl rfl
theorem dJ13_fill_0 : decode cJ13_fill 0 = .ok (.aload_n 0, 1) := dk_42 (dk_at dksJ13_fill_0 0 rfl rfl)
theorem dJ13_fill_1 : decode cJ13_fill 1 = .ok (.arraylength, 1) := dk_190 (dk_at dksJ13_fill_0 1 rfl rfl)
theorem dJ13_fill_2 : decode cJ13_fill 2 = .ok (.iload_n 1, 1) := dk_27 (dk_at dksJ13_fill_0 2 rfl rfl)
theorem dJ13_fill_3 : decode cJ13_fill 3 = .ok (.iload_n 2, 1) := dk_28 (dk_at dksJ13_fill_0 3 rfl rfl)
theorem dJ13_fill_4 : decode cJ13_fill 4 = .ok (.invokestatic 13, 3) := dk_184 0 13 (dk_at dksJ13_fill_0 4 rfl rfl)
theorem dJ13_fill_7 : decode cJ13_fill 7 = .ok (.iload_n 1, 1) := dk_27 (dk_at dksJ13_fill_0 7 rfl rfl)
theorem dJ13_fill_8 : decode cJ13_fill 8 = .ok (.istore 4, 2) := dk_54 4 (dk_at dksJ13_fill_0 8 rfl rfl)
theorem dJ13_fill_10 : decode cJ13_fill 10 = .ok (.iload 4, 2) := dk_21 4 (dk_at dksJ13_fill_0 10 rfl rfl)
theorem dJ13_fill_12 : decode cJ13_fill 12 = .ok (.iload_n 2, 1) := dk_28 (dk_at dksJ13_fill_0 12 rfl rfl)
theorem dJ13_fill_13 : decode cJ13_fill 13 = .ok (.if_icmp .ge 14, 3) := dk_162 0 14 (dk_at dksJ13_fill_0 13 rfl rfl)
theorem dJ13_fill_16 : decode cJ13_fill 16 = .ok (.aload_n 0, 1) := dk_42 (dk_at dksJ13_fill_0 16 rfl rfl)
theorem dJ13_fill_17 : decode cJ13_fill 17 = .ok (.iload 4, 2) := dk_21 4 (dk_at dksJ13_fill_0 17 rfl rfl)
theorem dJ13_fill_19 : decode cJ13_fill 19 = .ok (.iload_n 3, 1) := dk_29 (dk_at dksJ13_fill_0 19 rfl rfl)
theorem dJ13_fill_20 : decode cJ13_fill 20 = .ok (.bastore, 1) := dk_84 (dk_at dksJ13_fill_0 20 rfl rfl)
theorem dJ13_fill_21 : decode cJ13_fill 21 = .ok (.iinc 4 1, 3) := dk_132 4 1 (dk_at dksJ13_fill_0 21 rfl rfl)
theorem dJ13_fill_24 : decode cJ13_fill 24 = .ok (.goto (-14), 3) := dk_167 255 242 (dk_at dksJ13_fill_1 0 rfl rfl)
theorem dJ13_fill_27 : decode cJ13_fill 27 = .ok (.return_, 1) := dk_177 (dk_at dksJ13_fill_1 3 rfl rfl)
abbrev cJ13_rangeCheck : ByteArray := prog_51_method_30_code
def yJ13_rangeCheck : MethodName := ⟨RJ13, "rangeCheck", "(III)V"⟩
def dkwJ13_rangeCheck_3 : List UInt8 := [183, 0, 70, 191, 177]
abbrev dktJ13_rangeCheck_3 : List UInt8 := dkwJ13_rangeCheck_3 ++ []
def dkwJ13_rangeCheck_2 : List UInt8 := [27, 156, 0, 12, 187, 0, 68, 89, 27, 183, 0, 70, 191, 28, 26, 164, 0, 12, 187, 0, 68, 89, 28]
abbrev dktJ13_rangeCheck_2 : List UInt8 := dkwJ13_rangeCheck_2 ++ dktJ13_rangeCheck_3
def dkwJ13_rangeCheck_1 : List UInt8 := [182, 0, 54, 18, 57, 182, 0, 50, 28, 182, 0, 54, 18, 59, 182, 0, 50, 182, 0, 61, 183, 0, 65, 191]
abbrev dktJ13_rangeCheck_1 : List UInt8 := dkwJ13_rangeCheck_1 ++ dktJ13_rangeCheck_2
def dkwJ13_rangeCheck_0 : List UInt8 := [27, 28, 164, 0, 44, 187, 0, 43, 89, 187, 0, 45, 89, 183, 0, 47, 18, 48, 182, 0, 50, 27]
abbrev dktJ13_rangeCheck_0 : List UInt8 := dkwJ13_rangeCheck_0 ++ dktJ13_rangeCheck_1
theorem dksJ13_rangeCheck_0 : cJ13_rangeCheck.data.toList.drop 0 = dktJ13_rangeCheck_0 := by decide +kernel
theorem dksJ13_rangeCheck_1 : cJ13_rangeCheck.data.toList.drop 22 = dktJ13_rangeCheck_1 := dk_seg dksJ13_rangeCheck_0 22 rfl rfl
theorem dksJ13_rangeCheck_2 : cJ13_rangeCheck.data.toList.drop 46 = dktJ13_rangeCheck_2 := dk_seg dksJ13_rangeCheck_1 24 rfl rfl
theorem dksJ13_rangeCheck_3 : cJ13_rangeCheck.data.toList.drop 69 = dktJ13_rangeCheck_3 := dk_seg dksJ13_rangeCheck_2 23 rfl rfl
theorem dJ13_rangeCheck_0 : decode cJ13_rangeCheck 0 = .ok (.iload_n 1, 1) := dk_27 (dk_at dksJ13_rangeCheck_0 0 rfl rfl)
theorem dJ13_rangeCheck_1 : decode cJ13_rangeCheck 1 = .ok (.iload_n 2, 1) := dk_28 (dk_at dksJ13_rangeCheck_0 1 rfl rfl)
theorem dJ13_rangeCheck_2 : decode cJ13_rangeCheck 2 = .ok (.if_icmp .le 44, 3) := dk_164 0 44 (dk_at dksJ13_rangeCheck_0 2 rfl rfl)
theorem dJ13_rangeCheck_5 : decode cJ13_rangeCheck 5 = .ok (.new 43, 3) := dk_187 0 43 (dk_at dksJ13_rangeCheck_0 5 rfl rfl)
theorem dJ13_rangeCheck_8 : decode cJ13_rangeCheck 8 = .ok (.dup, 1) := dk_89 (dk_at dksJ13_rangeCheck_0 8 rfl rfl)
theorem dJ13_rangeCheck_9 : decode cJ13_rangeCheck 9 = .ok (.new 45, 3) := dk_187 0 45 (dk_at dksJ13_rangeCheck_0 9 rfl rfl)
theorem dJ13_rangeCheck_12 : decode cJ13_rangeCheck 12 = .ok (.dup, 1) := dk_89 (dk_at dksJ13_rangeCheck_0 12 rfl rfl)
theorem dJ13_rangeCheck_13 : decode cJ13_rangeCheck 13 = .ok (.invokespecial 47, 3) := dk_183 0 47 (dk_at dksJ13_rangeCheck_0 13 rfl rfl)
theorem dJ13_rangeCheck_16 : decode cJ13_rangeCheck 16 = .ok (.ldc 48, 2) := dk_18 48 (dk_at dksJ13_rangeCheck_0 16 rfl rfl)
theorem dJ13_rangeCheck_18 : decode cJ13_rangeCheck 18 = .ok (.invokevirtual 50, 3) := dk_182 0 50 (dk_at dksJ13_rangeCheck_0 18 rfl rfl)
theorem dJ13_rangeCheck_21 : decode cJ13_rangeCheck 21 = .ok (.iload_n 1, 1) := dk_27 (dk_at dksJ13_rangeCheck_0 21 rfl rfl)
theorem dJ13_rangeCheck_22 : decode cJ13_rangeCheck 22 = .ok (.invokevirtual 54, 3) := dk_182 0 54 (dk_at dksJ13_rangeCheck_1 0 rfl rfl)
theorem dJ13_rangeCheck_25 : decode cJ13_rangeCheck 25 = .ok (.ldc 57, 2) := dk_18 57 (dk_at dksJ13_rangeCheck_1 3 rfl rfl)
theorem dJ13_rangeCheck_27 : decode cJ13_rangeCheck 27 = .ok (.invokevirtual 50, 3) := dk_182 0 50 (dk_at dksJ13_rangeCheck_1 5 rfl rfl)
theorem dJ13_rangeCheck_30 : decode cJ13_rangeCheck 30 = .ok (.iload_n 2, 1) := dk_28 (dk_at dksJ13_rangeCheck_1 8 rfl rfl)
theorem dJ13_rangeCheck_31 : decode cJ13_rangeCheck 31 = .ok (.invokevirtual 54, 3) := dk_182 0 54 (dk_at dksJ13_rangeCheck_1 9 rfl rfl)
theorem dJ13_rangeCheck_34 : decode cJ13_rangeCheck 34 = .ok (.ldc 59, 2) := dk_18 59 (dk_at dksJ13_rangeCheck_1 12 rfl rfl)
theorem dJ13_rangeCheck_36 : decode cJ13_rangeCheck 36 = .ok (.invokevirtual 50, 3) := dk_182 0 50 (dk_at dksJ13_rangeCheck_1 14 rfl rfl)
theorem dJ13_rangeCheck_39 : decode cJ13_rangeCheck 39 = .ok (.invokevirtual 61, 3) := dk_182 0 61 (dk_at dksJ13_rangeCheck_1 17 rfl rfl)
theorem dJ13_rangeCheck_42 : decode cJ13_rangeCheck 42 = .ok (.invokespecial 65, 3) := dk_183 0 65 (dk_at dksJ13_rangeCheck_1 20 rfl rfl)
theorem dJ13_rangeCheck_45 : decode cJ13_rangeCheck 45 = .ok (.athrow, 1) := dk_191 (dk_at dksJ13_rangeCheck_1 23 rfl rfl)
theorem dJ13_rangeCheck_46 : decode cJ13_rangeCheck 46 = .ok (.iload_n 1, 1) := dk_27 (dk_at dksJ13_rangeCheck_2 0 rfl rfl)
theorem dJ13_rangeCheck_47 : decode cJ13_rangeCheck 47 = .ok (.ifCond .ge 12, 3) := dk_156 0 12 (dk_at dksJ13_rangeCheck_2 1 rfl rfl)
theorem dJ13_rangeCheck_50 : decode cJ13_rangeCheck 50 = .ok (.new 68, 3) := dk_187 0 68 (dk_at dksJ13_rangeCheck_2 4 rfl rfl)
theorem dJ13_rangeCheck_53 : decode cJ13_rangeCheck 53 = .ok (.dup, 1) := dk_89 (dk_at dksJ13_rangeCheck_2 7 rfl rfl)
theorem dJ13_rangeCheck_54 : decode cJ13_rangeCheck 54 = .ok (.iload_n 1, 1) := dk_27 (dk_at dksJ13_rangeCheck_2 8 rfl rfl)
theorem dJ13_rangeCheck_55 : decode cJ13_rangeCheck 55 = .ok (.invokespecial 70, 3) := dk_183 0 70 (dk_at dksJ13_rangeCheck_2 9 rfl rfl)
theorem dJ13_rangeCheck_58 : decode cJ13_rangeCheck 58 = .ok (.athrow, 1) := dk_191 (dk_at dksJ13_rangeCheck_2 12 rfl rfl)
theorem dJ13_rangeCheck_59 : decode cJ13_rangeCheck 59 = .ok (.iload_n 2, 1) := dk_28 (dk_at dksJ13_rangeCheck_2 13 rfl rfl)
theorem dJ13_rangeCheck_60 : decode cJ13_rangeCheck 60 = .ok (.iload_n 0, 1) := dk_26 (dk_at dksJ13_rangeCheck_2 14 rfl rfl)
theorem dJ13_rangeCheck_61 : decode cJ13_rangeCheck 61 = .ok (.if_icmp .le 12, 3) := dk_164 0 12 (dk_at dksJ13_rangeCheck_2 15 rfl rfl)
theorem dJ13_rangeCheck_64 : decode cJ13_rangeCheck 64 = .ok (.new 68, 3) := dk_187 0 68 (dk_at dksJ13_rangeCheck_2 18 rfl rfl)
theorem dJ13_rangeCheck_67 : decode cJ13_rangeCheck 67 = .ok (.dup, 1) := dk_89 (dk_at dksJ13_rangeCheck_2 21 rfl rfl)
theorem dJ13_rangeCheck_68 : decode cJ13_rangeCheck 68 = .ok (.iload_n 2, 1) := dk_28 (dk_at dksJ13_rangeCheck_2 22 rfl rfl)
theorem dJ13_rangeCheck_69 : decode cJ13_rangeCheck 69 = .ok (.invokespecial 70, 3) := dk_183 0 70 (dk_at dksJ13_rangeCheck_3 0 rfl rfl)
theorem dJ13_rangeCheck_72 : decode cJ13_rangeCheck 72 = .ok (.athrow, 1) := dk_191 (dk_at dksJ13_rangeCheck_3 3 rfl rfl)
theorem dJ13_rangeCheck_73 : decode cJ13_rangeCheck 73 = .ok (.return_, 1) := dk_177 (dk_at dksJ13_rangeCheck_3 4 rfl rfl)
theorem q144 : (Jvm.Cond.initialized "java/util/Arrays") ∈ lw_all := lw_g (lw_at lw_m1 16 rfl) rfl
theorem q315 : (Jvm.Cond.static ({ cls := "java/util/Arrays", name := "copyOf", desc := "([BI)[B" } : Jvm.MethodName)) ∈ lw_all := lw_g (lw_at lw_m1 187 rfl) rfl
theorem q316 : (Jvm.Cond.code ({ cls := "java/util/Arrays", name := "copyOf", desc := "([BI)[B" } : Jvm.MethodName) prog_51_method_121_code (3 : Nat) (Option.some (Jvm.ClassFile.FieldType.array Jvm.ClassFile.FieldType.byte))) ∈ lw_all := lw_g (lw_at lw_m1 188 rfl) rfl
theorem q317 : (Jvm.Cond.methodLink "java/util/Arrays" (310 : Nat) ({ cls := "[B", name := "clone", desc := "()Ljava/lang/Object;" } : Jvm.MethodName)) ∈ lw_all := lw_g (lw_at lw_m1 189 rfl) rfl
theorem q323 : (Jvm.Cond.classLink "java/util/Arrays" (311 : Nat) "[B") ∈ lw_all := lw_g (lw_at lw_m1 195 rfl) rfl
theorem q324 : (Jvm.Cond.methodLink "java/util/Arrays" (304 : Nat) ({ cls := "java/lang/Math", name := "min", desc := "(II)I" } : Jvm.MethodName)) ∈ lw_all := lw_g (lw_at lw_m1 196 rfl) rfl
theorem q327 : (Jvm.Cond.methodLink "java/util/Arrays" (150 : Nat) ({ cls := "java/lang/System", name := "arraycopy", desc := "(Ljava/lang/Object;ILjava/lang/Object;II)V" } : Jvm.MethodName)) ∈ lw_all := lw_g (lw_at lw_m1 199 rfl) rfl
theorem q457 : (Jvm.Cond.static ({ cls := "java/util/Arrays", name := "copyOfRange", desc := "([BII)[B" } : Jvm.MethodName)) ∈ lw_all := lw_g (lw_at lw_m2 89 rfl) rfl
theorem q458 : (Jvm.Cond.code ({ cls := "java/util/Arrays", name := "copyOfRange", desc := "([BII)[B" } : Jvm.MethodName) prog_51_method_132_code (3 : Nat) (Option.some (Jvm.ClassFile.FieldType.array Jvm.ClassFile.FieldType.byte))) ∈ lw_all := lw_g (lw_at lw_m2 90 rfl) rfl
theorem q459 : (Jvm.Cond.methodLink "java/util/Arrays" (339 : Nat) ({ cls := "java/util/Arrays", name := "copyOfRangeByte", desc := "([BII)[B" } : Jvm.MethodName)) ∈ lw_all := lw_g (lw_at lw_m2 91 rfl) rfl
theorem q460 : (Jvm.Cond.static ({ cls := "java/util/Arrays", name := "copyOfRangeByte", desc := "([BII)[B" } : Jvm.MethodName)) ∈ lw_all := lw_g (lw_at lw_m2 92 rfl) rfl
theorem q461 : (Jvm.Cond.code ({ cls := "java/util/Arrays", name := "copyOfRangeByte", desc := "([BII)[B" } : Jvm.MethodName) prog_51_method_133_code (5 : Nat) (Option.some (Jvm.ClassFile.FieldType.array Jvm.ClassFile.FieldType.byte))) ∈ lw_all := lw_g (lw_at lw_m2 93 rfl) rfl
theorem q462 : (Jvm.Cond.methodLink "java/util/Arrays" (343 : Nat) ({ cls := "java/util/Arrays", name := "checkLength", desc := "(II)V" } : Jvm.MethodName)) ∈ lw_all := lw_g (lw_at lw_m2 94 rfl) rfl
theorem q463 : (Jvm.Cond.static ({ cls := "java/util/Arrays", name := "checkLength", desc := "(II)V" } : Jvm.MethodName)) ∈ lw_all := lw_g (lw_at lw_m2 95 rfl) rfl
theorem q464 : (Jvm.Cond.code ({ cls := "java/util/Arrays", name := "checkLength", desc := "(II)V" } : Jvm.MethodName) prog_51_method_131_code (2 : Nat) (Option.none : Option Jvm.ClassFile.FieldType)) ∈ lw_all := lw_g (lw_at lw_m2 96 rfl) rfl
theorem q465 : (Jvm.Cond.classLink "java/util/Arrays" (43 : Nat) "java/lang/IllegalArgumentException") ∈ lw_all := lw_g (lw_at lw_m2 97 rfl) rfl
theorem q466 : (Jvm.Cond.classLink "java/util/Arrays" (45 : Nat) "java/lang/StringBuilder") ∈ lw_all := lw_g (lw_at lw_m2 98 rfl) rfl
theorem q467 : (Jvm.Cond.methodLink "java/util/Arrays" (47 : Nat) ({ cls := "java/lang/StringBuilder", name := "<init>", desc := "()V" } : Jvm.MethodName)) ∈ lw_all := lw_g (lw_at lw_m2 99 rfl) rfl
theorem q468 : (Jvm.Cond.methodLink "java/util/Arrays" (54 : Nat) ({ cls := "java/lang/StringBuilder", name := "append", desc := "(I)Ljava/lang/StringBuilder;" } : Jvm.MethodName)) ∈ lw_all := lw_g (lw_at lw_m2 100 rfl) rfl
theorem q469 : (Jvm.Cond.stringRef "java/util/Arrays" (337 : Nat) " > ") ∈ lw_tbl := lw_at lw_m2 101 rfl
theorem q470 : (Jvm.Cond.methodLink "java/util/Arrays" (50 : Nat) ({ cls := "java/lang/StringBuilder", name := "append", desc := "(Ljava/lang/String;)Ljava/lang/StringBuilder;" } : Jvm.MethodName)) ∈ lw_all := lw_g (lw_at lw_m2 102 rfl) rfl
theorem q471 : (Jvm.Cond.methodLink "java/util/Arrays" (61 : Nat) ({ cls := "java/lang/StringBuilder", name := "toString", desc := "()Ljava/lang/String;" } : Jvm.MethodName)) ∈ lw_all := lw_g (lw_at lw_m2 103 rfl) rfl
theorem q472 : (Jvm.Cond.methodLink "java/util/Arrays" (65 : Nat) ({ cls := "java/lang/IllegalArgumentException", name := "<init>", desc := "(Ljava/lang/String;)V" } : Jvm.MethodName)) ∈ lw_all := lw_g (lw_at lw_m2 104 rfl) rfl
theorem q988 : (Jvm.Cond.static ({ cls := "java/util/Arrays", name := "copyOf", desc := "([Ljava/lang/Object;I)[Ljava/lang/Object;" } : Jvm.MethodName)) ∈ lw_all := lw_g (lw_at lw_m4 140 rfl) rfl
theorem q989 : (Jvm.Cond.code ({ cls := "java/util/Arrays", name := "copyOf", desc := "([Ljava/lang/Object;I)[Ljava/lang/Object;" } : Jvm.MethodName) prog_51_method_119_code (2 : Nat) (Option.some (Jvm.ClassFile.FieldType.array (Jvm.ClassFile.FieldType.object "java/lang/Object")))) ∈ lw_all := lw_g (lw_at lw_m4 141 rfl) rfl
theorem q990 : (Jvm.Cond.methodLink "java/util/Arrays" (86 : Nat) ({ cls := "java/lang/Object", name := "getClass", desc := "()Ljava/lang/Class;" } : Jvm.MethodName)) ∈ lw_all := lw_g (lw_at lw_m4 142 rfl) rfl
theorem q1021 : (Jvm.Cond.methodLink "java/util/Arrays" (300 : Nat) ({ cls := "java/util/Arrays", name := "copyOf", desc := "([Ljava/lang/Object;ILjava/lang/Class;)[Ljava/lang/Object;" } : Jvm.MethodName)) ∈ lw_all := lw_g (lw_at lw_m4 173 rfl) rfl
theorem q1022 : (Jvm.Cond.static ({ cls := "java/util/Arrays", name := "copyOf", desc := "([Ljava/lang/Object;ILjava/lang/Class;)[Ljava/lang/Object;" } : Jvm.MethodName)) ∈ lw_all := lw_g (lw_at lw_m4 174 rfl) rfl
theorem q1023 : (Jvm.Cond.code ({ cls := "java/util/Arrays", name := "copyOf", desc := "([Ljava/lang/Object;ILjava/lang/Class;)[Ljava/lang/Object;" } : Jvm.MethodName) prog_51_method_120_code (4 : Nat) (Option.some (Jvm.ClassFile.FieldType.array (Jvm.ClassFile.FieldType.object "java/lang/Object")))) ∈ lw_all := lw_g (lw_at lw_m4 175 rfl) rfl
theorem q1024 : (Jvm.Cond.classLink "java/util/Arrays" (110 : Nat) "[Ljava/lang/Object;") ∈ lw_all := lw_g (lw_at lw_m4 176 rfl) rfl
theorem q1025 : (Jvm.Cond.classLink "java/util/Arrays" (2 : Nat) "java/lang/Object") ∈ lw_all := lw_g (lw_at lw_m4 177 rfl) rfl
theorem q2461 : (Jvm.Cond.static ({ cls := "java/util/Arrays", name := "fill", desc := "([BIIB)V" } : Jvm.MethodName)) ∈ lw_all := lw_g (lw_at lw_m10 173 rfl) rfl
theorem q2462 : (Jvm.Cond.code ({ cls := "java/util/Arrays", name := "fill", desc := "([BIIB)V" } : Jvm.MethodName) prog_51_method_110_code (5 : Nat) (Option.none : Option Jvm.ClassFile.FieldType)) ∈ lw_all := lw_g (lw_at lw_m10 174 rfl) rfl
theorem q2463 : (Jvm.Cond.methodLink "java/util/Arrays" (13 : Nat) ({ cls := "java/util/Arrays", name := "rangeCheck", desc := "(III)V" } : Jvm.MethodName)) ∈ lw_all := lw_g (lw_at lw_m10 175 rfl) rfl
theorem q2464 : (Jvm.Cond.static ({ cls := "java/util/Arrays", name := "rangeCheck", desc := "(III)V" } : Jvm.MethodName)) ∈ lw_all := lw_g (lw_at lw_m10 176 rfl) rfl
theorem q2465 : (Jvm.Cond.code ({ cls := "java/util/Arrays", name := "rangeCheck", desc := "(III)V" } : Jvm.MethodName) prog_51_method_30_code (3 : Nat) (Option.none : Option Jvm.ClassFile.FieldType)) ∈ lw_all := lw_g (lw_at lw_m10 177 rfl) rfl
theorem q2466 : (Jvm.Cond.stringRef "java/util/Arrays" (48 : Nat) "fromIndex(") ∈ lw_tbl := lw_at lw_m10 178 rfl
theorem q2467 : (Jvm.Cond.stringRef "java/util/Arrays" (57 : Nat) ") > toIndex(") ∈ lw_tbl := lw_at lw_m10 179 rfl
theorem q2468 : (Jvm.Cond.stringRef "java/util/Arrays" (59 : Nat) ")") ∈ lw_tbl := lw_at lw_m10 180 rfl
theorem q2469 : (Jvm.Cond.classLink "java/util/Arrays" (68 : Nat) "java/lang/ArrayIndexOutOfBoundsException") ∈ lw_all := lw_g (lw_at lw_m10 181 rfl) rfl
theorem q2470 : (Jvm.Cond.methodLink "java/util/Arrays" (70 : Nat) ({ cls := "java/lang/ArrayIndexOutOfBoundsException", name := "<init>", desc := "(I)V" } : Jvm.MethodName)) ∈ lw_all := lw_g (lw_at lw_m10 182 rfl) rfl
/-! jdk/internal/util/Preconditions -/
set_option maxRecDepth 100000
def RJ14 : String := "jdk/internal/util/Preconditions"
abbrev cJ14_checkFromToIndex : ByteArray := prog_65_method_12_code
def yJ14_checkFromToIndex : MethodName := ⟨RJ14, "checkFromToIndex", "(IIILjava/util/function/BiFunction;)I"⟩
def dkwJ14_checkFromToIndex_0 : List UInt8 := [26, 155, 0, 13, 26, 27, 163, 0, 8, 27, 28, 164, 0, 11, 45, 26, 27, 28, 184, 0, 99, 191, 26, 172]
abbrev dktJ14_checkFromToIndex_0 : List UInt8 := dkwJ14_checkFromToIndex_0 ++ []
theorem dksJ14_checkFromToIndex_0 : cJ14_checkFromToIndex.data.toList.drop 0 = dktJ14_checkFromToIndex_0 := by decide +kernel
theorem dJ14_checkFromToIndex_0 : decode cJ14_checkFromToIndex 0 = .ok (.iload_n 0, 1) := dk_26 (dk_at dksJ14_checkFromToIndex_0 0 rfl rfl)
theorem dJ14_checkFromToIndex_1 : decode cJ14_checkFromToIndex 1 = .ok (.ifCond .lt 13, 3) := dk_155 0 13 (dk_at dksJ14_checkFromToIndex_0 1 rfl rfl)
theorem dJ14_checkFromToIndex_4 : decode cJ14_checkFromToIndex 4 = .ok (.iload_n 0, 1) := dk_26 (dk_at dksJ14_checkFromToIndex_0 4 rfl rfl)
theorem dJ14_checkFromToIndex_5 : decode cJ14_checkFromToIndex 5 = .ok (.iload_n 1, 1) := dk_27 (dk_at dksJ14_checkFromToIndex_0 5 rfl rfl)
theorem dJ14_checkFromToIndex_6 : decode cJ14_checkFromToIndex 6 = .ok (.if_icmp .gt 8, 3) := dk_163 0 8 (dk_at dksJ14_checkFromToIndex_0 6 rfl rfl)
theorem dJ14_checkFromToIndex_9 : decode cJ14_checkFromToIndex 9 = .ok (.iload_n 1, 1) := dk_27 (dk_at dksJ14_checkFromToIndex_0 9 rfl rfl)
theorem dJ14_checkFromToIndex_10 : decode cJ14_checkFromToIndex 10 = .ok (.iload_n 2, 1) := dk_28 (dk_at dksJ14_checkFromToIndex_0 10 rfl rfl)
theorem dJ14_checkFromToIndex_11 : decode cJ14_checkFromToIndex 11 = .ok (.if_icmp .le 11, 3) := dk_164 0 11 (dk_at dksJ14_checkFromToIndex_0 11 rfl rfl)
theorem dJ14_checkFromToIndex_14 : decode cJ14_checkFromToIndex 14 = .ok (.aload_n 3, 1) := dk_45 (dk_at dksJ14_checkFromToIndex_0 14 rfl rfl)
theorem dJ14_checkFromToIndex_15 : decode cJ14_checkFromToIndex 15 = .ok (.iload_n 0, 1) := dk_26 (dk_at dksJ14_checkFromToIndex_0 15 rfl rfl)
theorem dJ14_checkFromToIndex_16 : decode cJ14_checkFromToIndex 16 = .ok (.iload_n 1, 1) := dk_27 (dk_at dksJ14_checkFromToIndex_0 16 rfl rfl)
theorem dJ14_checkFromToIndex_17 : decode cJ14_checkFromToIndex 17 = .ok (.iload_n 2, 1) := dk_28 (dk_at dksJ14_checkFromToIndex_0 17 rfl rfl)
theorem dJ14_checkFromToIndex_18 : decode cJ14_checkFromToIndex 18 = .ok (.invokestatic 99, 3) := dk_184 0 99 (dk_at dksJ14_checkFromToIndex_0 18 rfl rfl)
theorem dJ14_checkFromToIndex_21 : decode cJ14_checkFromToIndex 21 = .ok (.athrow, 1) := dk_191 (dk_at dksJ14_checkFromToIndex_0 21 rfl rfl)
theorem dJ14_checkFromToIndex_22 : decode cJ14_checkFromToIndex 22 = .ok (.iload_n 0, 1) := dk_26 (dk_at dksJ14_checkFromToIndex_0 22 rfl rfl)
theorem dJ14_checkFromToIndex_23 : decode cJ14_checkFromToIndex 23 = .ok (.ireturn, 1) := dk_172 (dk_at dksJ14_checkFromToIndex_0 23 rfl rfl)
abbrev cJ14_checkFromIndexSize : ByteArray := prog_65_method_13_code
def yJ14_checkFromIndexSize : MethodName := ⟨RJ14, "checkFromIndexSize", "(IIILjava/util/function/BiFunction;)I"⟩
def dkwJ14_checkFromIndexSize_1 : List UInt8 := [172]
abbrev dktJ14_checkFromIndexSize_1 : List UInt8 := dkwJ14_checkFromIndexSize_1 ++ []
def dkwJ14_checkFromIndexSize_0 : List UInt8 := [28, 26, 128, 27, 128, 155, 0, 10, 27, 28, 26, 100, 164, 0, 11, 45, 26, 27, 28, 184, 0, 103, 191, 26]
abbrev dktJ14_checkFromIndexSize_0 : List UInt8 := dkwJ14_checkFromIndexSize_0 ++ dktJ14_checkFromIndexSize_1
theorem dksJ14_checkFromIndexSize_0 : cJ14_checkFromIndexSize.data.toList.drop 0 = dktJ14_checkFromIndexSize_0 := by decide +kernel
theorem dksJ14_checkFromIndexSize_1 : cJ14_checkFromIndexSize.data.toList.drop 24 = dktJ14_checkFromIndexSize_1 := dk_seg dksJ14_checkFromIndexSize_0 24 rfl rfl
theorem dJ14_checkFromIndexSize_0 : decode cJ14_checkFromIndexSize 0 = .ok (.iload_n 2, 1) := dk_28 (dk_at dksJ14_checkFromIndexSize_0 0 rfl rfl)
theorem dJ14_checkFromIndexSize_1 : decode cJ14_checkFromIndexSize 1 = .ok (.iload_n 0, 1) := dk_26 (dk_at dksJ14_checkFromIndexSize_0 1 rfl rfl)
theorem dJ14_checkFromIndexSize_2 : decode cJ14_checkFromIndexSize 2 = .ok (.ior, 1) := dk_128 (dk_at dksJ14_checkFromIndexSize_0 2 rfl rfl)
theorem dJ14_checkFromIndexSize_3 : decode cJ14_checkFromIndexSize 3 = .ok (.iload_n 1, 1) := dk_27 (dk_at dksJ14_checkFromIndexSize_0 3 rfl rfl)
theorem dJ14_checkFromIndexSize_4 : decode cJ14_checkFromIndexSize 4 = .ok (.ior, 1) := dk_128 (dk_at dksJ14_checkFromIndexSize_0 4 rfl rfl)
theorem dJ14_checkFromIndexSize_5 : decode cJ14_checkFromIndexSize 5 = .ok (.ifCond .lt 10, 3) := dk_155 0 10 (dk_at dksJ14_checkFromIndexSize_0 5 rfl rfl)
theorem dJ14_checkFromIndexSize_8 : decode cJ14_checkFromIndexSize 8 = .ok (.iload_n 1, 1) := dk_27 (dk_at dksJ14_checkFromIndexSize_0 8 rfl rfl)
theorem dJ14_checkFromIndexSize_9 : decode cJ14_checkFromIndexSize 9 = .ok (.iload_n 2, 1) := dk_28 (dk_at dksJ14_checkFromIndexSize_0 9 rfl rfl)
theorem dJ14_checkFromIndexSize_10 : decode cJ14_checkFromIndexSize 10 = .ok (.iload_n 0, 1) := dk_26 (dk_at dksJ14_checkFromIndexSize_0 10 rfl rfl)
theorem dJ14_checkFromIndexSize_11 : decode cJ14_checkFromIndexSize 11 = .ok (.isub, 1) := dk_100 (dk_at dksJ14_checkFromIndexSize_0 11 rfl rfl)
theorem dJ14_checkFromIndexSize_12 : decode cJ14_checkFromIndexSize 12 = .ok (.if_icmp .le 11, 3) := dk_164 0 11 (dk_at dksJ14_checkFromIndexSize_0 12 rfl rfl)
theorem dJ14_checkFromIndexSize_15 : decode cJ14_checkFromIndexSize 15 = .ok (.aload_n 3, 1) := dk_45 (dk_at dksJ14_checkFromIndexSize_0 15 rfl rfl)
theorem dJ14_checkFromIndexSize_16 : decode cJ14_checkFromIndexSize 16 = .ok (.iload_n 0, 1) := dk_26 (dk_at dksJ14_checkFromIndexSize_0 16 rfl rfl)
theorem dJ14_checkFromIndexSize_17 : decode cJ14_checkFromIndexSize 17 = .ok (.iload_n 1, 1) := dk_27 (dk_at dksJ14_checkFromIndexSize_0 17 rfl rfl)
theorem dJ14_checkFromIndexSize_18 : decode cJ14_checkFromIndexSize 18 = .ok (.iload_n 2, 1) := dk_28 (dk_at dksJ14_checkFromIndexSize_0 18 rfl rfl)
theorem dJ14_checkFromIndexSize_19 : decode cJ14_checkFromIndexSize 19 = .ok (.invokestatic 103, 3) := dk_184 0 103 (dk_at dksJ14_checkFromIndexSize_0 19 rfl rfl)
theorem dJ14_checkFromIndexSize_22 : decode cJ14_checkFromIndexSize 22 = .ok (.athrow, 1) := dk_191 (dk_at dksJ14_checkFromIndexSize_0 22 rfl rfl)
theorem dJ14_checkFromIndexSize_23 : decode cJ14_checkFromIndexSize 23 = .ok (.iload_n 0, 1) := dk_26 (dk_at dksJ14_checkFromIndexSize_0 23 rfl rfl)
theorem dJ14_checkFromIndexSize_24 : decode cJ14_checkFromIndexSize 24 = .ok (.ireturn, 1) := dk_172 (dk_at dksJ14_checkFromIndexSize_1 0 rfl rfl)
abbrev cJ14_checkIndex : ByteArray := prog_65_method_11_code
def yJ14_checkIndex : MethodName := ⟨RJ14, "checkIndex", "(IILjava/util/function/BiFunction;)I"⟩
def dkwJ14_checkIndex_0 : List UInt8 := [26, 155, 0, 8, 26, 27, 161, 0, 10, 44, 26, 27, 184, 0, 95, 191, 26, 172]
abbrev dktJ14_checkIndex_0 : List UInt8 := dkwJ14_checkIndex_0 ++ []
theorem dksJ14_checkIndex_0 : cJ14_checkIndex.data.toList.drop 0 = dktJ14_checkIndex_0 := by decide +kernel
theorem dJ14_checkIndex_0 : decode cJ14_checkIndex 0 = .ok (.iload_n 0, 1) := dk_26 (dk_at dksJ14_checkIndex_0 0 rfl rfl)
theorem dJ14_checkIndex_1 : decode cJ14_checkIndex 1 = .ok (.ifCond .lt 8, 3) := dk_155 0 8 (dk_at dksJ14_checkIndex_0 1 rfl rfl)
theorem dJ14_checkIndex_4 : decode cJ14_checkIndex 4 = .ok (.iload_n 0, 1) := dk_26 (dk_at dksJ14_checkIndex_0 4 rfl rfl)
theorem dJ14_checkIndex_5 : decode cJ14_checkIndex 5 = .ok (.iload_n 1, 1) := dk_27 (dk_at dksJ14_checkIndex_0 5 rfl rfl)
theorem dJ14_checkIndex_6 : decode cJ14_checkIndex 6 = .ok (.if_icmp .lt 10, 3) := dk_161 0 10 (dk_at dksJ14_checkIndex_0 6 rfl rfl)
theorem dJ14_checkIndex_9 : decode cJ14_checkIndex 9 = .ok (.aload_n 2, 1) := dk_44 (dk_at dksJ14_checkIndex_0 9 rfl rfl)
theorem dJ14_checkIndex_10 : decode cJ14_checkIndex 10 = .ok (.iload_n 0, 1) := dk_26 (dk_at dksJ14_checkIndex_0 10 rfl rfl)
theorem dJ14_checkIndex_11 : decode cJ14_checkIndex 11 = .ok (.iload_n 1, 1) := dk_27 (dk_at dksJ14_checkIndex_0 11 rfl rfl)
theorem dJ14_checkIndex_12 : decode cJ14_checkIndex 12 = .ok (.invokestatic 95, 3) := dk_184 0 95 (dk_at dksJ14_checkIndex_0 12 rfl rfl)
theorem dJ14_checkIndex_15 : decode cJ14_checkIndex 15 = .ok (.athrow, 1) := dk_191 (dk_at dksJ14_checkIndex_0 15 rfl rfl)
theorem dJ14_checkIndex_16 : decode cJ14_checkIndex 16 = .ok (.iload_n 0, 1) := dk_26 (dk_at dksJ14_checkIndex_0 16 rfl rfl)
theorem dJ14_checkIndex_17 : decode cJ14_checkIndex 17 = .ok (.ireturn, 1) := dk_172 (dk_at dksJ14_checkIndex_0 17 rfl rfl)
theorem q146 : (Jvm.Cond.initialized "jdk/internal/util/Preconditions") ∈ lw_all := lw_g (lw_at lw_m1 18 rfl) rfl
theorem q348 : (Jvm.Cond.laysStatic "jdk/internal/util/Preconditions" "SIOOBE_FORMATTER" "Ljava/util/function/BiFunction;") ∈ lw_tbl := lw_at lw_m1 220 rfl
theorem q350 : (Jvm.Cond.static ({ cls := "jdk/internal/util/Preconditions", name := "checkFromToIndex", desc := "(IIILjava/util/function/BiFunction;)I" } : Jvm.MethodName)) ∈ lw_all := lw_g (lw_at lw_m1 222 rfl) rfl
theorem q351 : (Jvm.Cond.code ({ cls := "jdk/internal/util/Preconditions", name := "checkFromToIndex", desc := "(IIILjava/util/function/BiFunction;)I" } : Jvm.MethodName) prog_65_method_12_code (4 : Nat) (Option.some Jvm.ClassFile.FieldType.int)) ∈ lw_all := lw_g (lw_at lw_m1 223 rfl) rfl
theorem q396 : (Jvm.Cond.static ({ cls := "jdk/internal/util/Preconditions", name := "checkFromIndexSize", desc := "(IIILjava/util/function/BiFunction;)I" } : Jvm.MethodName)) ∈ lw_all := lw_g (lw_at lw_m2 28 rfl) rfl
theorem q397 : (Jvm.Cond.code ({ cls := "jdk/internal/util/Preconditions", name := "checkFromIndexSize", desc := "(IIILjava/util/function/BiFunction;)I" } : Jvm.MethodName) prog_65_method_13_code (4 : Nat) (Option.some Jvm.ClassFile.FieldType.int)) ∈ lw_all := lw_g (lw_at lw_m2 29 rfl) rfl
theorem q766 : (Jvm.Cond.static ({ cls := "jdk/internal/util/Preconditions", name := "checkIndex", desc := "(IILjava/util/function/BiFunction;)I" } : Jvm.MethodName)) ∈ lw_all := lw_g (lw_at lw_m3 158 rfl) rfl
theorem q767 : (Jvm.Cond.code ({ cls := "jdk/internal/util/Preconditions", name := "checkIndex", desc := "(IILjava/util/function/BiFunction;)I" } : Jvm.MethodName) prog_65_method_11_code (3 : Nat) (Option.some Jvm.ClassFile.FieldType.int)) ∈ lw_all := lw_g (lw_at lw_m3 159 rfl) rfl
/-! java/lang/StringLatin1 -/
set_option maxRecDepth 100000
def RJ15 : String := "java/lang/StringLatin1"
abbrev cJ15_inflate : ByteArray := prog_40_method_50_code
def yJ15_inflate : MethodName := ⟨RJ15, "inflate", "([BI[BII)V"⟩
def dkwJ15_inflate_0 : List UInt8 := [42, 27, 44, 29, 21, 4, 184, 0, 240, 177]
abbrev dktJ15_inflate_0 : List UInt8 := dkwJ15_inflate_0 ++ []
theorem dksJ15_inflate_0 : cJ15_inflate.data.toList.drop 0 = dktJ15_inflate_0 := by decide +kernel
theorem dJ15_inflate_0 : decode cJ15_inflate 0 = .ok (.aload_n 0, 1) := dk_42 (dk_at dksJ15_inflate_0 0 rfl rfl)
theorem dJ15_inflate_1 : decode cJ15_inflate 1 = .ok (.iload_n 1, 1) := dk_27 (dk_at dksJ15_inflate_0 1 rfl rfl)
theorem dJ15_inflate_2 : decode cJ15_inflate 2 = .ok (.aload_n 2, 1) := dk_44 (dk_at dksJ15_inflate_0 2 rfl rfl)
theorem dJ15_inflate_3 : decode cJ15_inflate 3 = .ok (.iload_n 3, 1) := dk_29 (dk_at dksJ15_inflate_0 3 rfl rfl)
theorem dJ15_inflate_4 : decode cJ15_inflate 4 = .ok (.iload 4, 2) := dk_21 4 (dk_at dksJ15_inflate_0 4 rfl rfl)
theorem dJ15_inflate_6 : decode cJ15_inflate 6 = .ok (.invokestatic 240, 3) := dk_184 0 240 (dk_at dksJ15_inflate_0 6 rfl rfl)
theorem dJ15_inflate_9 : decode cJ15_inflate 9 = .ok (.return_, 1) := dk_177 (dk_at dksJ15_inflate_0 9 rfl rfl)
abbrev cJ15_canEncode : ByteArray := prog_40_method_3_code
def yJ15_canEncode : MethodName := ⟨RJ15, "canEncode", "(C)Z"⟩
def dkwJ15_canEncode_0 : List UInt8 := [26, 17, 0, 255, 163, 0, 7, 4, 167, 0, 4, 3, 172]
abbrev dktJ15_canEncode_0 : List UInt8 := dkwJ15_canEncode_0 ++ []
theorem dksJ15_canEncode_0 : cJ15_canEncode.data.toList.drop 0 = dktJ15_canEncode_0 := by decide +kernel
theorem dJ15_canEncode_0 : decode cJ15_canEncode 0 = .ok (.iload_n 0, 1) := dk_26 (dk_at dksJ15_canEncode_0 0 rfl rfl)
theorem dJ15_canEncode_1 : decode cJ15_canEncode 1 = .ok (.sipush 255, 3) := dk_17 0 255 (dk_at dksJ15_canEncode_0 1 rfl rfl)
theorem dJ15_canEncode_4 : decode cJ15_canEncode 4 = .ok (.if_icmp .gt 7, 3) := dk_163 0 7 (dk_at dksJ15_canEncode_0 4 rfl rfl)
theorem dJ15_canEncode_7 : decode cJ15_canEncode 7 = .ok (.iconst 1, 1) := dk_4 (dk_at dksJ15_canEncode_0 7 rfl rfl)
theorem dJ15_canEncode_8 : decode cJ15_canEncode 8 = .ok (.goto 4, 3) := dk_167 0 4 (dk_at dksJ15_canEncode_0 8 rfl rfl)
theorem dJ15_canEncode_11 : decode cJ15_canEncode 11 = .ok (.iconst 0, 1) := dk_3 (dk_at dksJ15_canEncode_0 11 rfl rfl)
theorem dJ15_canEncode_12 : decode cJ15_canEncode 12 = .ok (.ireturn, 1) := dk_172 (dk_at dksJ15_canEncode_0 12 rfl rfl)
abbrev cJ15_equals : ByteArray := prog_40_method_13_code
def yJ15_equals : MethodName := ⟨RJ15, "equals", "([B[B)Z"⟩
def dkwJ15_equals_1 : List UInt8 := [3, 172, 132, 2, 1, 167, 255, 236, 4, 172, 3, 172]
abbrev dktJ15_equals_1 : List UInt8 := dkwJ15_equals_1 ++ []
def dkwJ15_equals_0 : List UInt8 := [42, 190, 43, 190, 160, 0, 30, 3, 61, 28, 42, 190, 162, 0, 20, 42, 28, 51, 43, 28, 51, 159, 0, 5]
abbrev dktJ15_equals_0 : List UInt8 := dkwJ15_equals_0 ++ dktJ15_equals_1
theorem dksJ15_equals_0 : cJ15_equals.data.toList.drop 0 = dktJ15_equals_0 := by decide +kernel
theorem dksJ15_equals_1 : cJ15_equals.data.toList.drop 24 = dktJ15_equals_1 := dk_seg dksJ15_equals_0 24 rfl rfl
theorem dJ15_equals_0 : decode cJ15_equals 0 = .ok (.aload_n 0, 1) := dk_42 (dk_at dksJ15_equals_0 0 rfl rfl)
theorem dJ15_equals_1 : decode cJ15_equals 1 = .ok (.arraylength, 1) := dk_190 (dk_at dksJ15_equals_0 1 rfl rfl)
theorem dJ15_equals_2 : decode cJ15_equals 2 = .ok (.aload_n 1, 1) := dk_43 (dk_at dksJ15_equals_0 2 rfl rfl)
theorem dJ15_equals_3 : decode cJ15_equals 3 = .ok (.arraylength, 1) := dk_190 (dk_at dksJ15_equals_0 3 rfl rfl)
theorem dJ15_equals_4 : decode cJ15_equals 4 = .ok (.if_icmp .ne 30, 3) := dk_160 0 30 (dk_at dksJ15_equals_0 4 rfl rfl)
theorem dJ15_equals_7 : decode cJ15_equals 7 = .ok (.iconst 0, 1) := dk_3 (dk_at dksJ15_equals_0 7 rfl rfl)
theorem dJ15_equals_8 : decode cJ15_equals 8 = .ok (.istore_n 2, 1) := dk_61 (dk_at dksJ15_equals_0 8 rfl rfl)
theorem dJ15_equals_9 : decode cJ15_equals 9 = .ok (.iload_n 2, 1) := dk_28 (dk_at dksJ15_equals_0 9 rfl rfl)
theorem dJ15_equals_10 : decode cJ15_equals 10 = .ok (.aload_n 0, 1) := dk_42 (dk_at dksJ15_equals_0 10 rfl rfl)
theorem dJ15_equals_11 : decode cJ15_equals 11 = .ok (.arraylength, 1) := dk_190 (dk_at dksJ15_equals_0 11 rfl rfl)
theorem dJ15_equals_12 : decode cJ15_equals 12 = .ok (.if_icmp .ge 20, 3) := dk_162 0 20 (dk_at dksJ15_equals_0 12 rfl rfl)
theorem dJ15_equals_15 : decode cJ15_equals 15 = .ok (.aload_n 0, 1) := dk_42 (dk_at dksJ15_equals_0 15 rfl rfl)
theorem dJ15_equals_16 : decode cJ15_equals 16 = .ok (.iload_n 2, 1) := dk_28 (dk_at dksJ15_equals_0 16 rfl rfl)
theorem dJ15_equals_17 : decode cJ15_equals 17 = .ok (.baload, 1) := dk_51 (dk_at dksJ15_equals_0 17 rfl rfl)
theorem dJ15_equals_18 : decode cJ15_equals 18 = .ok (.aload_n 1, 1) := dk_43 (dk_at dksJ15_equals_0 18 rfl rfl)
theorem dJ15_equals_19 : decode cJ15_equals 19 = .ok (.iload_n 2, 1) := dk_28 (dk_at dksJ15_equals_0 19 rfl rfl)
theorem dJ15_equals_20 : decode cJ15_equals 20 = .ok (.baload, 1) := dk_51 (dk_at dksJ15_equals_0 20 rfl rfl)
theorem dJ15_equals_21 : decode cJ15_equals 21 = .ok (.if_icmp .eq 5, 3) := dk_159 0 5 (dk_at dksJ15_equals_0 21 rfl rfl)
theorem dJ15_equals_24 : decode cJ15_equals 24 = .ok (.iconst 0, 1) := dk_3 (dk_at dksJ15_equals_1 0 rfl rfl)
theorem dJ15_equals_25 : decode cJ15_equals 25 = .ok (.ireturn, 1) := dk_172 (dk_at dksJ15_equals_1 1 rfl rfl)
theorem dJ15_equals_26 : decode cJ15_equals 26 = .ok (.iinc 2 1, 3) := dk_132 2 1 (dk_at dksJ15_equals_1 2 rfl rfl)
theorem dJ15_equals_29 : decode cJ15_equals 29 = .ok (.goto (-20), 3) := dk_167 255 236 (dk_at dksJ15_equals_1 5 rfl rfl)
theorem dJ15_equals_32 : decode cJ15_equals 32 = .ok (.iconst 1, 1) := dk_4 (dk_at dksJ15_equals_1 8 rfl rfl)
theorem dJ15_equals_33 : decode cJ15_equals 33 = .ok (.ireturn, 1) := dk_172 (dk_at dksJ15_equals_1 9 rfl rfl)
theorem dJ15_equals_34 : decode cJ15_equals 34 = .ok (.iconst 0, 1) := dk_3 (dk_at dksJ15_equals_1 10 rfl rfl)
theorem dJ15_equals_35 : decode cJ15_equals 35 = .ok (.ireturn, 1) := dk_172 (dk_at dksJ15_equals_1 11 rfl rfl)
abbrev cJ15_charAt : ByteArray := prog_40_method_2_code
def yJ15_charAt : MethodName := ⟨RJ15, "charAt", "([BI)C"⟩
def dkwJ15_charAt_0 : List UInt8 := [27, 42, 190, 184, 0, 9, 42, 27, 51, 17, 0, 255, 126, 146, 172]
abbrev dktJ15_charAt_0 : List UInt8 := dkwJ15_charAt_0 ++ []
theorem dksJ15_charAt_0 : cJ15_charAt.data.toList.drop 0 = dktJ15_charAt_0 := by decide +kernel
theorem dJ15_charAt_0 : decode cJ15_charAt 0 = .ok (.iload_n 1, 1) := dk_27 (dk_at dksJ15_charAt_0 0 rfl rfl)
theorem dJ15_charAt_1 : decode cJ15_charAt 1 = .ok (.aload_n 0, 1) := dk_42 (dk_at dksJ15_charAt_0 1 rfl rfl)
theorem dJ15_charAt_2 : decode cJ15_charAt 2 = .ok (.arraylength, 1) := dk_190 (dk_at dksJ15_charAt_0 2 rfl rfl)
theorem dJ15_charAt_3 : decode cJ15_charAt 3 = .ok (.invokestatic 9, 3) := dk_184 0 9 (dk_at dksJ15_charAt_0 3 rfl rfl)
theorem dJ15_charAt_6 : decode cJ15_charAt 6 = .ok (.aload_n 0, 1) := dk_42 (dk_at dksJ15_charAt_0 6 rfl rfl)
theorem dJ15_charAt_7 : decode cJ15_charAt 7 = .ok (.iload_n 1, 1) := dk_27 (dk_at dksJ15_charAt_0 7 rfl rfl)
theorem dJ15_charAt_8 : decode cJ15_charAt 8 = .ok (.baload, 1) := dk_51 (dk_at dksJ15_charAt_0 8 rfl rfl)
theorem dJ15_charAt_9 : decode cJ15_charAt 9 = .ok (.sipush 255, 3) := dk_17 0 255 (dk_at dksJ15_charAt_0 9 rfl rfl)
theorem dJ15_charAt_12 : decode cJ15_charAt 12 = .ok (.iand, 1) := dk_126 (dk_at dksJ15_charAt_0 12 rfl rfl)
theorem dJ15_charAt_13 : decode cJ15_charAt 13 = .ok (.i2c, 1) := dk_146 (dk_at dksJ15_charAt_0 13 rfl rfl)
theorem dJ15_charAt_14 : decode cJ15_charAt 14 = .ok (.ireturn, 1) := dk_172 (dk_at dksJ15_charAt_0 14 rfl rfl)
abbrev cJ15_hashCode : ByteArray := prog_40_method_21_code
def yJ15_hashCode : MethodName := ⟨RJ15, "hashCode", "([B)I"⟩
def dkwJ15_hashCode_2 : List UInt8 := [3, 167, 0, 22, 42, 3, 51, 17, 0, 255, 126, 167, 0, 12, 42, 3, 42, 190, 3, 7, 184, 0, 84, 172]
abbrev dktJ15_hashCode_2 : List UInt8 := dkwJ15_hashCode_2 ++ []
def dkwJ15_hashCode_1 : List UInt8 := [171, 0, 0, 0, 0, 40, 0, 0, 0, 2, 0, 0, 0, 0, 0, 0, 0, 26, 0, 0, 0, 1, 0, 0, 0, 30]
abbrev dktJ15_hashCode_1 : List UInt8 := dkwJ15_hashCode_1 ++ dktJ15_hashCode_2
def dkwJ15_hashCode_0 : List UInt8 := [42, 190]
abbrev dktJ15_hashCode_0 : List UInt8 := dkwJ15_hashCode_0 ++ dktJ15_hashCode_1
theorem dksJ15_hashCode_0 : cJ15_hashCode.data.toList.drop 0 = dktJ15_hashCode_0 := by decide +kernel
theorem dksJ15_hashCode_1 : cJ15_hashCode.data.toList.drop 2 = dktJ15_hashCode_1 := dk_seg dksJ15_hashCode_0 2 rfl rfl
theorem dksJ15_hashCode_2 : cJ15_hashCode.data.toList.drop 28 = dktJ15_hashCode_2 := dk_seg dksJ15_hashCode_1 26 rfl rfl
theorem dJ15_hashCode_0 : decode cJ15_hashCode 0 = .ok (.aload_n 0, 1) := dk_42 (dk_at dksJ15_hashCode_0 0 rfl rfl)
theorem dJ15_hashCode_1 : decode cJ15_hashCode 1 = .ok (.arraylength, 1) := dk_190 (dk_at dksJ15_hashCode_0 1 rfl rfl)
theorem dJ15_hashCode_2 : decode cJ15_hashCode 2 = .ok (.lookupswitch 40 #[(0, 26), (1, 30)], 26) := by decide +kernel
theorem dJ15_hashCode_28 : decode cJ15_hashCode 28 = .ok (.iconst 0, 1) := dk_3 (dk_at dksJ15_hashCode_2 0 rfl rfl)
theorem dJ15_hashCode_29 : decode cJ15_hashCode 29 = .ok (.goto 22, 3) := dk_167 0 22 (dk_at dksJ15_hashCode_2 1 rfl rfl)
theorem dJ15_hashCode_32 : decode cJ15_hashCode 32 = .ok (.aload_n 0, 1) := dk_42 (dk_at dksJ15_hashCode_2 4 rfl rfl)
theorem dJ15_hashCode_33 : decode cJ15_hashCode 33 = .ok (.iconst 0, 1) := dk_3 (dk_at dksJ15_hashCode_2 5 rfl rfl)
theorem dJ15_hashCode_34 : decode cJ15_hashCode 34 = .ok (.baload, 1) := dk_51 (dk_at dksJ15_hashCode_2 6 rfl rfl)
theorem dJ15_hashCode_35 : decode cJ15_hashCode 35 = .ok (.sipush 255, 3) := dk_17 0 255 (dk_at dksJ15_hashCode_2 7 rfl rfl)
theorem dJ15_hashCode_38 : decode cJ15_hashCode 38 = .ok (.iand, 1) := dk_126 (dk_at dksJ15_hashCode_2 10 rfl rfl)
theorem dJ15_hashCode_39 : decode cJ15_hashCode 39 = .ok (.goto 12, 3) := dk_167 0 12 (dk_at dksJ15_hashCode_2 11 rfl rfl)
theorem dJ15_hashCode_42 : decode cJ15_hashCode 42 = .ok (.aload_n 0, 1) := dk_42 (dk_at dksJ15_hashCode_2 14 rfl rfl)
theorem dJ15_hashCode_43 : decode cJ15_hashCode 43 = .ok (.iconst 0, 1) := dk_3 (dk_at dksJ15_hashCode_2 15 rfl rfl)
theorem dJ15_hashCode_44 : decode cJ15_hashCode 44 = .ok (.aload_n 0, 1) := dk_42 (dk_at dksJ15_hashCode_2 16 rfl rfl)
theorem dJ15_hashCode_45 : decode cJ15_hashCode 45 = .ok (.arraylength, 1) := dk_190 (dk_at dksJ15_hashCode_2 17 rfl rfl)
theorem dJ15_hashCode_46 : decode cJ15_hashCode 46 = .ok (.iconst 0, 1) := dk_3 (dk_at dksJ15_hashCode_2 18 rfl rfl)
theorem dJ15_hashCode_47 : decode cJ15_hashCode 47 = .ok (.iconst 4, 1) := dk_7 (dk_at dksJ15_hashCode_2 19 rfl rfl)
theorem dJ15_hashCode_48 : decode cJ15_hashCode 48 = .ok (.invokestatic 84, 3) := dk_184 0 84 (dk_at dksJ15_hashCode_2 20 rfl rfl)
theorem dJ15_hashCode_51 : decode cJ15_hashCode 51 = .ok (.ireturn, 1) := dk_172 (dk_at dksJ15_hashCode_2 23 rfl rfl)
abbrev cJ15_fillNull : ByteArray := prog_40_method_48_code
def yJ15_fillNull : MethodName := ⟨RJ15, "fillNull", "([BII)V"⟩
def dkwJ15_fillNull_0 : List UInt8 := [42, 27, 28, 3, 184, 0, 236, 177]
abbrev dktJ15_fillNull_0 : List UInt8 := dkwJ15_fillNull_0 ++ []
theorem dksJ15_fillNull_0 : cJ15_fillNull.data.toList.drop 0 = dktJ15_fillNull_0 := by decide +kernel
theorem dJ15_fillNull_0 : decode cJ15_fillNull 0 = .ok (.aload_n 0, 1) := dk_42 (dk_at dksJ15_fillNull_0 0 rfl rfl)
theorem dJ15_fillNull_1 : decode cJ15_fillNull 1 = .ok (.iload_n 1, 1) := dk_27 (dk_at dksJ15_fillNull_0 1 rfl rfl)
theorem dJ15_fillNull_2 : decode cJ15_fillNull 2 = .ok (.iload_n 2, 1) := dk_28 (dk_at dksJ15_fillNull_0 2 rfl rfl)
theorem dJ15_fillNull_3 : decode cJ15_fillNull 3 = .ok (.iconst 0, 1) := dk_3 (dk_at dksJ15_fillNull_0 3 rfl rfl)
theorem dJ15_fillNull_4 : decode cJ15_fillNull 4 = .ok (.invokestatic 236, 3) := dk_184 0 236 (dk_at dksJ15_fillNull_0 4 rfl rfl)
theorem dJ15_fillNull_7 : decode cJ15_fillNull 7 = .ok (.return_, 1) := dk_177 (dk_at dksJ15_fillNull_0 7 rfl rfl)
theorem q147 : (Jvm.Cond.initialized "java/lang/StringLatin1") ∈ lw_all := lw_g (lw_at lw_m1 19 rfl) rfl
theorem q384 : (Jvm.Cond.static ({ cls := "java/lang/StringLatin1", name := "inflate", desc := "([BI[BII)V" } : Jvm.MethodName)) ∈ lw_all := lw_g (lw_at lw_m2 16 rfl) rfl
theorem q385 : (Jvm.Cond.code ({ cls := "java/lang/StringLatin1", name := "inflate", desc := "([BI[BII)V" } : Jvm.MethodName) prog_40_method_50_code (5 : Nat) (Option.none : Option Jvm.ClassFile.FieldType)) ∈ lw_all := lw_g (lw_at lw_m2 17 rfl) rfl
theorem q386 : (Jvm.Cond.methodLink "java/lang/StringLatin1" (240 : Nat) ({ cls := "java/lang/StringUTF16", name := "inflate", desc := "([BI[BII)V" } : Jvm.MethodName)) ∈ lw_all := lw_g (lw_at lw_m2 18 rfl) rfl
theorem q1129 : (Jvm.Cond.static ({ cls := "java/lang/StringLatin1", name := "canEncode", desc := "(C)Z" } : Jvm.MethodName)) ∈ lw_all := lw_g (lw_at lw_m5 41 rfl) rfl
theorem q1130 : (Jvm.Cond.code ({ cls := "java/lang/StringLatin1", name := "canEncode", desc := "(C)Z" } : Jvm.MethodName) prog_40_method_3_code (1 : Nat) (Option.some Jvm.ClassFile.FieldType.boolean)) ∈ lw_all := lw_g (lw_at lw_m5 42 rfl) rfl
theorem q1276 : (Jvm.Cond.static ({ cls := "java/lang/StringLatin1", name := "equals", desc := "([B[B)Z" } : Jvm.MethodName)) ∈ lw_all := lw_g (lw_at lw_m5 188 rfl) rfl
theorem q1277 : (Jvm.Cond.code ({ cls := "java/lang/StringLatin1", name := "equals", desc := "([B[B)Z" } : Jvm.MethodName) prog_40_method_13_code (3 : Nat) (Option.some Jvm.ClassFile.FieldType.boolean)) ∈ lw_all := lw_g (lw_at lw_m5 189 rfl) rfl
theorem q1304 : (Jvm.Cond.static ({ cls := "java/lang/StringLatin1", name := "charAt", desc := "([BI)C" } : Jvm.MethodName)) ∈ lw_all := lw_g (lw_at lw_m5 216 rfl) rfl
theorem q1305 : (Jvm.Cond.code ({ cls := "java/lang/StringLatin1", name := "charAt", desc := "([BI)C" } : Jvm.MethodName) prog_40_method_2_code (2 : Nat) (Option.some Jvm.ClassFile.FieldType.char)) ∈ lw_all := lw_g (lw_at lw_m5 217 rfl) rfl
theorem q1306 : (Jvm.Cond.methodLink "java/lang/StringLatin1" (9 : Nat) ({ cls := "java/lang/String", name := "checkIndex", desc := "(II)V" } : Jvm.MethodName)) ∈ lw_all := lw_g (lw_at lw_m5 218 rfl) rfl
theorem q1450 : (Jvm.Cond.static ({ cls := "java/lang/StringLatin1", name := "hashCode", desc := "([B)I" } : Jvm.MethodName)) ∈ lw_all := lw_g (lw_at lw_m6 122 rfl) rfl
theorem q1451 : (Jvm.Cond.code ({ cls := "java/lang/StringLatin1", name := "hashCode", desc := "([B)I" } : Jvm.MethodName) prog_40_method_21_code (1 : Nat) (Option.some Jvm.ClassFile.FieldType.int)) ∈ lw_all := lw_g (lw_at lw_m6 123 rfl) rfl
theorem q1452 : (Jvm.Cond.methodLink "java/lang/StringLatin1" (84 : Nat) ({ cls := "jdk/internal/util/ArraysSupport", name := "vectorizedHashCode", desc := "(Ljava/lang/Object;IIII)I" } : Jvm.MethodName)) ∈ lw_all := lw_g (lw_at lw_m6 124 rfl) rfl
theorem q2458 : (Jvm.Cond.static ({ cls := "java/lang/StringLatin1", name := "fillNull", desc := "([BII)V" } : Jvm.MethodName)) ∈ lw_all := lw_g (lw_at lw_m10 170 rfl) rfl
theorem q2459 : (Jvm.Cond.code ({ cls := "java/lang/StringLatin1", name := "fillNull", desc := "([BII)V" } : Jvm.MethodName) prog_40_method_48_code (3 : Nat) (Option.none : Option Jvm.ClassFile.FieldType)) ∈ lw_all := lw_g (lw_at lw_m10 171 rfl) rfl
theorem q2460 : (Jvm.Cond.methodLink "java/lang/StringLatin1" (236 : Nat) ({ cls := "java/util/Arrays", name := "fill", desc := "([BIIB)V" } : Jvm.MethodName)) ∈ lw_all := lw_g (lw_at lw_m10 172 rfl) rfl
/-! java/lang/Integer -/
set_option maxRecDepth 100000
def RJ16 : String := "java/lang/Integer"
abbrev cJ16_stringSize : ByteArray := prog_29_method_13_code
def yJ16_stringSize : MethodName := ⟨RJ16, "stringSize", "(I)I"⟩
def dkwJ16_stringSize_1 : List UInt8 := [164, 0, 7, 29, 27, 96, 172, 16, 10, 28, 104, 61, 132, 3, 1, 167, 255, 233, 16, 10, 27, 96, 172]
abbrev dktJ16_stringSize_1 : List UInt8 := dkwJ16_stringSize_1 ++ []
def dkwJ16_stringSize_0 : List UInt8 := [4, 60, 26, 155, 0, 8, 3, 60, 26, 116, 59, 16, 246, 61, 4, 62, 29, 16, 10, 162, 0, 23, 26, 28]
abbrev dktJ16_stringSize_0 : List UInt8 := dkwJ16_stringSize_0 ++ dktJ16_stringSize_1
theorem dksJ16_stringSize_0 : cJ16_stringSize.data.toList.drop 0 = dktJ16_stringSize_0 := by decide +kernel
theorem dksJ16_stringSize_1 : cJ16_stringSize.data.toList.drop 24 = dktJ16_stringSize_1 := dk_seg dksJ16_stringSize_0 24 rfl rfl
theorem dJ16_stringSize_0 : decode cJ16_stringSize 0 = .ok (.iconst 1, 1) := dk_4 (dk_at dksJ16_stringSize_0 0 rfl rfl)
theorem dJ16_stringSize_1 : decode cJ16_stringSize 1 = .ok (.istore_n 1, 1) := dk_60 (dk_at dksJ16_stringSize_0 1 rfl rfl)
theorem dJ16_stringSize_2 : decode cJ16_stringSize 2 = .ok (.iload_n 0, 1) := dk_26 (dk_at dksJ16_stringSize_0 2 rfl rfl)
theorem dJ16_stringSize_3 : decode cJ16_stringSize 3 = .ok (.ifCond .lt 8, 3) := dk_155 0 8 (dk_at dksJ16_stringSize_0 3 rfl rfl)
theorem dJ16_stringSize_6 : decode cJ16_stringSize 6 = .ok (.iconst 0, 1) := dk_3 (dk_at dksJ16_stringSize_0 6 rfl rfl)
theorem dJ16_stringSize_7 : decode cJ16_stringSize 7 = .ok (.istore_n 1, 1) := dk_60 (dk_at dksJ16_stringSize_0 7 rfl rfl)
theorem dJ16_stringSize_8 : decode cJ16_stringSize 8 = .ok (.iload_n 0, 1) := dk_26 (dk_at dksJ16_stringSize_0 8 rfl rfl)
theorem dJ16_stringSize_9 : decode cJ16_stringSize 9 = .ok (.ineg, 1) := dk_116 (dk_at dksJ16_stringSize_0 9 rfl rfl)
theorem dJ16_stringSize_10 : decode cJ16_stringSize 10 = .ok (.istore_n 0, 1) := dk_59 (dk_at dksJ16_stringSize_0 10 rfl rfl)
theorem dJ16_stringSize_11 : decode cJ16_stringSize 11 = .ok (.bipush (-10), 2) := dk_16 246 (dk_at dksJ16_stringSize_0 11 rfl rfl)
theorem dJ16_stringSize_13 : decode cJ16_stringSize 13 = .ok (.istore_n 2, 1) := dk_61 (dk_at dksJ16_stringSize_0 13 rfl rfl)
theorem dJ16_stringSize_14 : decode cJ16_stringSize 14 = .ok (.iconst 1, 1) := dk_4 (dk_at dksJ16_stringSize_0 14 rfl rfl)
theorem dJ16_stringSize_15 : decode cJ16_stringSize 15 = .ok (.istore_n 3, 1) := dk_62 (dk_at dksJ16_stringSize_0 15 rfl rfl)
theorem dJ16_stringSize_16 : decode cJ16_stringSize 16 = .ok (.iload_n 3, 1) := dk_29 (dk_at dksJ16_stringSize_0 16 rfl rfl)
theorem dJ16_stringSize_17 : decode cJ16_stringSize 17 = .ok (.bipush 10, 2) := dk_16 10 (dk_at dksJ16_stringSize_0 17 rfl rfl)
theorem dJ16_stringSize_19 : decode cJ16_stringSize 19 = .ok (.if_icmp .ge 23, 3) := dk_162 0 23 (dk_at dksJ16_stringSize_0 19 rfl rfl)
theorem dJ16_stringSize_22 : decode cJ16_stringSize 22 = .ok (.iload_n 0, 1) := dk_26 (dk_at dksJ16_stringSize_0 22 rfl rfl)
theorem dJ16_stringSize_23 : decode cJ16_stringSize 23 = .ok (.iload_n 2, 1) := dk_28 (dk_at dksJ16_stringSize_0 23 rfl rfl)
theorem dJ16_stringSize_24 : decode cJ16_stringSize 24 = .ok (.if_icmp .le 7, 3) := dk_164 0 7 (dk_at dksJ16_stringSize_1 0 rfl rfl)
theorem dJ16_stringSize_27 : decode cJ16_stringSize 27 = .ok (.iload_n 3, 1) := dk_29 (dk_at dksJ16_stringSize_1 3 rfl rfl)
theorem dJ16_stringSize_28 : decode cJ16_stringSize 28 = .ok (.iload_n 1, 1) := dk_27 (dk_at dksJ16_stringSize_1 4 rfl rfl)
theorem dJ16_stringSize_29 : decode cJ16_stringSize 29 = .ok (.iadd, 1) := dk_96 (dk_at dksJ16_stringSize_1 5 rfl rfl)
theorem dJ16_stringSize_30 : decode cJ16_stringSize 30 = .ok (.ireturn, 1) := dk_172 (dk_at dksJ16_stringSize_1 6 rfl rfl)
theorem dJ16_stringSize_31 : decode cJ16_stringSize 31 = .ok (.bipush 10, 2) := dk_16 10 (dk_at dksJ16_stringSize_1 7 rfl rfl)
theorem dJ16_stringSize_33 : decode cJ16_stringSize 33 = .ok (.iload_n 2, 1) := dk_28 (dk_at dksJ16_stringSize_1 9 rfl rfl)
theorem dJ16_stringSize_34 : decode cJ16_stringSize 34 = .ok (.imul, 1) := dk_104 (dk_at dksJ16_stringSize_1 10 rfl rfl)
theorem dJ16_stringSize_35 : decode cJ16_stringSize 35 = .ok (.istore_n 2, 1) := dk_61 (dk_at dksJ16_stringSize_1 11 rfl rfl)
theorem dJ16_stringSize_36 : decode cJ16_stringSize 36 = .ok (.iinc 3 1, 3) := dk_132 3 1 (dk_at dksJ16_stringSize_1 12 rfl rfl)
theorem dJ16_stringSize_39 : decode cJ16_stringSize 39 = .ok (.goto (-23), 3) := dk_167 255 233 (dk_at dksJ16_stringSize_1 15 rfl rfl)
theorem dJ16_stringSize_42 : decode cJ16_stringSize 42 = .ok (.bipush 10, 2) := dk_16 10 (dk_at dksJ16_stringSize_1 18 rfl rfl)
theorem dJ16_stringSize_44 : decode cJ16_stringSize 44 = .ok (.iload_n 1, 1) := dk_27 (dk_at dksJ16_stringSize_1 20 rfl rfl)
theorem dJ16_stringSize_45 : decode cJ16_stringSize 45 = .ok (.iadd, 1) := dk_96 (dk_at dksJ16_stringSize_1 21 rfl rfl)
theorem dJ16_stringSize_46 : decode cJ16_stringSize 46 = .ok (.ireturn, 1) := dk_172 (dk_at dksJ16_stringSize_1 22 rfl rfl)
abbrev cJ16_getChars : ByteArray := prog_29_method_12_code
def yJ16_getChars : MethodName := ⟨RJ16, "getChars", "(II[B)I"⟩
def dkwJ16_getChars_5 : List UInt8 := [16, 45, 84, 21, 5, 172]
abbrev dktJ16_getChars_5 : List UInt8 := dkwJ16_getChars_5 ++ []
def dkwJ16_getChars_4 : List UInt8 := [132, 5, 255, 21, 5, 178, 0, 87, 26, 116, 51, 84, 21, 6, 153, 0, 12, 44, 132, 5, 255, 21, 5]
abbrev dktJ16_getChars_4 : List UInt8 := dkwJ16_getChars_4 ++ dktJ16_getChars_5
def dkwJ16_getChars_3 : List UInt8 := [167, 255, 209, 44, 132, 5, 255, 21, 5, 178, 0, 83, 26, 116, 51, 84, 26, 16, 247, 162, 0, 16, 44]
abbrev dktJ16_getChars_3 : List UInt8 := dkwJ16_getChars_3 ++ dktJ16_getChars_4
def dkwJ16_getChars_2 : List UInt8 := [21, 5, 178, 0, 83, 21, 4, 51, 84, 44, 132, 5, 255, 21, 5, 178, 0, 87, 21, 4, 51, 84]
abbrev dktJ16_getChars_2 : List UInt8 := dkwJ16_getChars_2 ++ dktJ16_getChars_3
def dkwJ16_getChars_1 : List UInt8 := [16, 156, 163, 0, 47, 26, 16, 100, 108, 62, 29, 16, 100, 104, 26, 100, 54, 4, 29, 59, 44, 132, 5, 255]
abbrev dktJ16_getChars_1 : List UInt8 := dkwJ16_getChars_1 ++ dktJ16_getChars_2
def dkwJ16_getChars_0 : List UInt8 := [27, 54, 5, 26, 156, 0, 7, 4, 167, 0, 4, 3, 54, 6, 21, 6, 154, 0, 6, 26, 116, 59, 26]
abbrev dktJ16_getChars_0 : List UInt8 := dkwJ16_getChars_0 ++ dktJ16_getChars_1
theorem dksJ16_getChars_0 : cJ16_getChars.data.toList.drop 0 = dktJ16_getChars_0 := by decide +kernel
theorem dksJ16_getChars_1 : cJ16_getChars.data.toList.drop 23 = dktJ16_getChars_1 := dk_seg dksJ16_getChars_0 23 rfl rfl
theorem dksJ16_getChars_2 : cJ16_getChars.data.toList.drop 47 = dktJ16_getChars_2 := dk_seg dksJ16_getChars_1 24 rfl rfl
theorem dksJ16_getChars_3 : cJ16_getChars.data.toList.drop 69 = dktJ16_getChars_3 := dk_seg dksJ16_getChars_2 22 rfl rfl
theorem dksJ16_getChars_4 : cJ16_getChars.data.toList.drop 92 = dktJ16_getChars_4 := dk_seg dksJ16_getChars_3 23 rfl rfl
theorem dksJ16_getChars_5 : cJ16_getChars.data.toList.drop 115 = dktJ16_getChars_5 := dk_seg dksJ16_getChars_4 23 rfl rfl
theorem dJ16_getChars_0 : decode cJ16_getChars 0 = .ok (.iload_n 1, 1) := dk_27 (dk_at dksJ16_getChars_0 0 rfl rfl)
theorem dJ16_getChars_1 : decode cJ16_getChars 1 = .ok (.istore 5, 2) := dk_54 5 (dk_at dksJ16_getChars_0 1 rfl rfl)
theorem dJ16_getChars_3 : decode cJ16_getChars 3 = .ok (.iload_n 0, 1) := dk_26 (dk_at dksJ16_getChars_0 3 rfl rfl)
theorem dJ16_getChars_4 : decode cJ16_getChars 4 = .ok (.ifCond .ge 7, 3) := dk_156 0 7 (dk_at dksJ16_getChars_0 4 rfl rfl)
theorem dJ16_getChars_7 : decode cJ16_getChars 7 = .ok (.iconst 1, 1) := dk_4 (dk_at dksJ16_getChars_0 7 rfl rfl)
theorem dJ16_getChars_8 : decode cJ16_getChars 8 = .ok (.goto 4, 3) := dk_167 0 4 (dk_at dksJ16_getChars_0 8 rfl rfl)
theorem dJ16_getChars_11 : decode cJ16_getChars 11 = .ok (.iconst 0, 1) := dk_3 (dk_at dksJ16_getChars_0 11 rfl rfl)
theorem dJ16_getChars_12 : decode cJ16_getChars 12 = .ok (.istore 6, 2) := dk_54 6 (dk_at dksJ16_getChars_0 12 rfl rfl)
theorem dJ16_getChars_14 : decode cJ16_getChars 14 = .ok (.iload 6, 2) := dk_21 6 (dk_at dksJ16_getChars_0 14 rfl rfl)
theorem dJ16_getChars_16 : decode cJ16_getChars 16 = .ok (.ifCond .ne 6, 3) := dk_154 0 6 (dk_at dksJ16_getChars_0 16 rfl rfl)
theorem dJ16_getChars_19 : decode cJ16_getChars 19 = .ok (.iload_n 0, 1) := dk_26 (dk_at dksJ16_getChars_0 19 rfl rfl)
theorem dJ16_getChars_20 : decode cJ16_getChars 20 = .ok (.ineg, 1) := dk_116 (dk_at dksJ16_getChars_0 20 rfl rfl)
theorem dJ16_getChars_21 : decode cJ16_getChars 21 = .ok (.istore_n 0, 1) := dk_59 (dk_at dksJ16_getChars_0 21 rfl rfl)
theorem dJ16_getChars_22 : decode cJ16_getChars 22 = .ok (.iload_n 0, 1) := dk_26 (dk_at dksJ16_getChars_0 22 rfl rfl)
theorem dJ16_getChars_23 : decode cJ16_getChars 23 = .ok (.bipush (-100), 2) := dk_16 156 (dk_at dksJ16_getChars_1 0 rfl rfl)
theorem dJ16_getChars_25 : decode cJ16_getChars 25 = .ok (.if_icmp .gt 47, 3) := dk_163 0 47 (dk_at dksJ16_getChars_1 2 rfl rfl)
theorem dJ16_getChars_28 : decode cJ16_getChars 28 = .ok (.iload_n 0, 1) := dk_26 (dk_at dksJ16_getChars_1 5 rfl rfl)
theorem dJ16_getChars_29 : decode cJ16_getChars 29 = .ok (.bipush 100, 2) := dk_16 100 (dk_at dksJ16_getChars_1 6 rfl rfl)
theorem dJ16_getChars_31 : decode cJ16_getChars 31 = .ok (.idiv, 1) := dk_108 (dk_at dksJ16_getChars_1 8 rfl rfl)
theorem dJ16_getChars_32 : decode cJ16_getChars 32 = .ok (.istore_n 3, 1) := dk_62 (dk_at dksJ16_getChars_1 9 rfl rfl)
theorem dJ16_getChars_33 : decode cJ16_getChars 33 = .ok (.iload_n 3, 1) := dk_29 (dk_at dksJ16_getChars_1 10 rfl rfl)
theorem dJ16_getChars_34 : decode cJ16_getChars 34 = .ok (.bipush 100, 2) := dk_16 100 (dk_at dksJ16_getChars_1 11 rfl rfl)
theorem dJ16_getChars_36 : decode cJ16_getChars 36 = .ok (.imul, 1) := dk_104 (dk_at dksJ16_getChars_1 13 rfl rfl)
theorem dJ16_getChars_37 : decode cJ16_getChars 37 = .ok (.iload_n 0, 1) := dk_26 (dk_at dksJ16_getChars_1 14 rfl rfl)
theorem dJ16_getChars_38 : decode cJ16_getChars 38 = .ok (.isub, 1) := dk_100 (dk_at dksJ16_getChars_1 15 rfl rfl)
theorem dJ16_getChars_39 : decode cJ16_getChars 39 = .ok (.istore 4, 2) := dk_54 4 (dk_at dksJ16_getChars_1 16 rfl rfl)
theorem dJ16_getChars_41 : decode cJ16_getChars 41 = .ok (.iload_n 3, 1) := dk_29 (dk_at dksJ16_getChars_1 18 rfl rfl)
theorem dJ16_getChars_42 : decode cJ16_getChars 42 = .ok (.istore_n 0, 1) := dk_59 (dk_at dksJ16_getChars_1 19 rfl rfl)
theorem dJ16_getChars_43 : decode cJ16_getChars 43 = .ok (.aload_n 2, 1) := dk_44 (dk_at dksJ16_getChars_1 20 rfl rfl)
theorem dJ16_getChars_44 : decode cJ16_getChars 44 = .ok (.iinc 5 (-1), 3) := dk_132 5 255 (dk_at dksJ16_getChars_1 21 rfl rfl)
theorem dJ16_getChars_47 : decode cJ16_getChars 47 = .ok (.iload 5, 2) := dk_21 5 (dk_at dksJ16_getChars_2 0 rfl rfl)
theorem dJ16_getChars_49 : decode cJ16_getChars 49 = .ok (.getstatic 83, 3) := dk_178 0 83 (dk_at dksJ16_getChars_2 2 rfl rfl)
theorem dJ16_getChars_52 : decode cJ16_getChars 52 = .ok (.iload 4, 2) := dk_21 4 (dk_at dksJ16_getChars_2 5 rfl rfl)
theorem dJ16_getChars_54 : decode cJ16_getChars 54 = .ok (.baload, 1) := dk_51 (dk_at dksJ16_getChars_2 7 rfl rfl)
theorem dJ16_getChars_55 : decode cJ16_getChars 55 = .ok (.bastore, 1) := dk_84 (dk_at dksJ16_getChars_2 8 rfl rfl)
theorem dJ16_getChars_56 : decode cJ16_getChars 56 = .ok (.aload_n 2, 1) := dk_44 (dk_at dksJ16_getChars_2 9 rfl rfl)
theorem dJ16_getChars_57 : decode cJ16_getChars 57 = .ok (.iinc 5 (-1), 3) := dk_132 5 255 (dk_at dksJ16_getChars_2 10 rfl rfl)
theorem dJ16_getChars_60 : decode cJ16_getChars 60 = .ok (.iload 5, 2) := dk_21 5 (dk_at dksJ16_getChars_2 13 rfl rfl)
theorem dJ16_getChars_62 : decode cJ16_getChars 62 = .ok (.getstatic 87, 3) := dk_178 0 87 (dk_at dksJ16_getChars_2 15 rfl rfl)
theorem dJ16_getChars_65 : decode cJ16_getChars 65 = .ok (.iload 4, 2) := dk_21 4 (dk_at dksJ16_getChars_2 18 rfl rfl)
theorem dJ16_getChars_67 : decode cJ16_getChars 67 = .ok (.baload, 1) := dk_51 (dk_at dksJ16_getChars_2 20 rfl rfl)
theorem dJ16_getChars_68 : decode cJ16_getChars 68 = .ok (.bastore, 1) := dk_84 (dk_at dksJ16_getChars_2 21 rfl rfl)
theorem dJ16_getChars_69 : decode cJ16_getChars 69 = .ok (.goto (-47), 3) := dk_167 255 209 (dk_at dksJ16_getChars_3 0 rfl rfl)
theorem dJ16_getChars_72 : decode cJ16_getChars 72 = .ok (.aload_n 2, 1) := dk_44 (dk_at dksJ16_getChars_3 3 rfl rfl)
theorem dJ16_getChars_73 : decode cJ16_getChars 73 = .ok (.iinc 5 (-1), 3) := dk_132 5 255 (dk_at dksJ16_getChars_3 4 rfl rfl)
theorem dJ16_getChars_76 : decode cJ16_getChars 76 = .ok (.iload 5, 2) := dk_21 5 (dk_at dksJ16_getChars_3 7 rfl rfl)
theorem dJ16_getChars_78 : decode cJ16_getChars 78 = .ok (.getstatic 83, 3) := dk_178 0 83 (dk_at dksJ16_getChars_3 9 rfl rfl)
theorem dJ16_getChars_81 : decode cJ16_getChars 81 = .ok (.iload_n 0, 1) := dk_26 (dk_at dksJ16_getChars_3 12 rfl rfl)
theorem dJ16_getChars_82 : decode cJ16_getChars 82 = .ok (.ineg, 1) := dk_116 (dk_at dksJ16_getChars_3 13 rfl rfl)
theorem dJ16_getChars_83 : decode cJ16_getChars 83 = .ok (.baload, 1) := dk_51 (dk_at dksJ16_getChars_3 14 rfl rfl)
theorem dJ16_getChars_84 : decode cJ16_getChars 84 = .ok (.bastore, 1) := dk_84 (dk_at dksJ16_getChars_3 15 rfl rfl)
theorem dJ16_getChars_85 : decode cJ16_getChars 85 = .ok (.iload_n 0, 1) := dk_26 (dk_at dksJ16_getChars_3 16 rfl rfl)
theorem dJ16_getChars_86 : decode cJ16_getChars 86 = .ok (.bipush (-9), 2) := dk_16 247 (dk_at dksJ16_getChars_3 17 rfl rfl)
theorem dJ16_getChars_88 : decode cJ16_getChars 88 = .ok (.if_icmp .ge 16, 3) := dk_162 0 16 (dk_at dksJ16_getChars_3 19 rfl rfl)
theorem dJ16_getChars_91 : decode cJ16_getChars 91 = .ok (.aload_n 2, 1) := dk_44 (dk_at dksJ16_getChars_3 22 rfl rfl)
theorem dJ16_getChars_92 : decode cJ16_getChars 92 = .ok (.iinc 5 (-1), 3) := dk_132 5 255 (dk_at dksJ16_getChars_4 0 rfl rfl)
theorem dJ16_getChars_95 : decode cJ16_getChars 95 = .ok (.iload 5, 2) := dk_21 5 (dk_at dksJ16_getChars_4 3 rfl rfl)
theorem dJ16_getChars_97 : decode cJ16_getChars 97 = .ok (.getstatic 87, 3) := dk_178 0 87 (dk_at dksJ16_getChars_4 5 rfl rfl)
theorem dJ16_getChars_100 : decode cJ16_getChars 100 = .ok (.iload_n 0, 1) := dk_26 (dk_at dksJ16_getChars_4 8 rfl rfl)
theorem dJ16_getChars_101 : decode cJ16_getChars 101 = .ok (.ineg, 1) := dk_116 (dk_at dksJ16_getChars_4 9 rfl rfl)
theorem dJ16_getChars_102 : decode cJ16_getChars 102 = .ok (.baload, 1) := dk_51 (dk_at dksJ16_getChars_4 10 rfl rfl)
theorem dJ16_getChars_103 : decode cJ16_getChars 103 = .ok (.bastore, 1) := dk_84 (dk_at dksJ16_getChars_4 11 rfl rfl)
theorem dJ16_getChars_104 : decode cJ16_getChars 104 = .ok (.iload 6, 2) := dk_21 6 (dk_at dksJ16_getChars_4 12 rfl rfl)
theorem dJ16_getChars_106 : decode cJ16_getChars 106 = .ok (.ifCond .eq 12, 3) := dk_153 0 12 (dk_at dksJ16_getChars_4 14 rfl rfl)
theorem dJ16_getChars_109 : decode cJ16_getChars 109 = .ok (.aload_n 2, 1) := dk_44 (dk_at dksJ16_getChars_4 17 rfl rfl)
theorem dJ16_getChars_110 : decode cJ16_getChars 110 = .ok (.iinc 5 (-1), 3) := dk_132 5 255 (dk_at dksJ16_getChars_4 18 rfl rfl)
theorem dJ16_getChars_113 : decode cJ16_getChars 113 = .ok (.iload 5, 2) := dk_21 5 (dk_at dksJ16_getChars_4 21 rfl rfl)
theorem dJ16_getChars_115 : decode cJ16_getChars 115 = .ok (.bipush 45, 2) := dk_16 45 (dk_at dksJ16_getChars_5 0 rfl rfl)
theorem dJ16_getChars_117 : decode cJ16_getChars 117 = .ok (.bastore, 1) := dk_84 (dk_at dksJ16_getChars_5 2 rfl rfl)
theorem dJ16_getChars_118 : decode cJ16_getChars 118 = .ok (.iload 5, 2) := dk_21 5 (dk_at dksJ16_getChars_5 3 rfl rfl)
theorem dJ16_getChars_120 : decode cJ16_getChars 120 = .ok (.ireturn, 1) := dk_172 (dk_at dksJ16_getChars_5 5 rfl rfl)
abbrev cJ16_numberOfLeadingZeros : ByteArray := prog_29_method_47_code
def yJ16_numberOfLeadingZeros : MethodName := ⟨RJ16, "numberOfLeadingZeros", "(I)I"⟩
def dkwJ16_numberOfLeadingZeros_3 : List UInt8 := [5, 124, 59, 27, 26, 4, 124, 100, 172]
abbrev dktJ16_numberOfLeadingZeros_3 : List UInt8 := dkwJ16_numberOfLeadingZeros_3 ++ []
def dkwJ16_numberOfLeadingZeros_2 : List UInt8 := [124, 59, 26, 16, 16, 161, 0, 10, 132, 1, 252, 26, 7, 124, 59, 26, 7, 161, 0, 10, 132, 1, 254, 26]
abbrev dktJ16_numberOfLeadingZeros_2 : List UInt8 := dkwJ16_numberOfLeadingZeros_2 ++ dktJ16_numberOfLeadingZeros_3
def dkwJ16_numberOfLeadingZeros_1 : List UInt8 := [161, 0, 11, 132, 1, 240, 26, 16, 16, 124, 59, 26, 17, 1, 0, 161, 0, 11, 132, 1, 248, 26, 16, 8]
abbrev dktJ16_numberOfLeadingZeros_1 : List UInt8 := dkwJ16_numberOfLeadingZeros_1 ++ dktJ16_numberOfLeadingZeros_2
def dkwJ16_numberOfLeadingZeros_0 : List UInt8 := [26, 157, 0, 14, 26, 154, 0, 8, 16, 32, 167, 0, 4, 3, 172, 16, 31, 60, 26, 19, 1, 8]
abbrev dktJ16_numberOfLeadingZeros_0 : List UInt8 := dkwJ16_numberOfLeadingZeros_0 ++ dktJ16_numberOfLeadingZeros_1
theorem dksJ16_numberOfLeadingZeros_0 : cJ16_numberOfLeadingZeros.data.toList.drop 0 = dktJ16_numberOfLeadingZeros_0 := by decide +kernel
theorem dksJ16_numberOfLeadingZeros_1 : cJ16_numberOfLeadingZeros.data.toList.drop 22 = dktJ16_numberOfLeadingZeros_1 := dk_seg dksJ16_numberOfLeadingZeros_0 22 rfl rfl
theorem dksJ16_numberOfLeadingZeros_2 : cJ16_numberOfLeadingZeros.data.toList.drop 46 = dktJ16_numberOfLeadingZeros_2 := dk_seg dksJ16_numberOfLeadingZeros_1 24 rfl rfl
theorem dksJ16_numberOfLeadingZeros_3 : cJ16_numberOfLeadingZeros.data.toList.drop 70 = dktJ16_numberOfLeadingZeros_3 := dk_seg dksJ16_numberOfLeadingZeros_2 24 rfl rfl
theorem dJ16_numberOfLeadingZeros_0 : decode cJ16_numberOfLeadingZeros 0 = .ok (.iload_n 0, 1) := dk_26 (dk_at dksJ16_numberOfLeadingZeros_0 0 rfl rfl)
theorem dJ16_numberOfLeadingZeros_1 : decode cJ16_numberOfLeadingZeros 1 = .ok (.ifCond .gt 14, 3) := dk_157 0 14 (dk_at dksJ16_numberOfLeadingZeros_0 1 rfl rfl)
theorem dJ16_numberOfLeadingZeros_4 : decode cJ16_numberOfLeadingZeros 4 = .ok (.iload_n 0, 1) := dk_26 (dk_at dksJ16_numberOfLeadingZeros_0 4 rfl rfl)
theorem dJ16_numberOfLeadingZeros_5 : decode cJ16_numberOfLeadingZeros 5 = .ok (.ifCond .ne 8, 3) := dk_154 0 8 (dk_at dksJ16_numberOfLeadingZeros_0 5 rfl rfl)
theorem dJ16_numberOfLeadingZeros_8 : decode cJ16_numberOfLeadingZeros 8 = .ok (.bipush 32, 2) := dk_16 32 (dk_at dksJ16_numberOfLeadingZeros_0 8 rfl rfl)
theorem dJ16_numberOfLeadingZeros_10 : decode cJ16_numberOfLeadingZeros 10 = .ok (.goto 4, 3) := dk_167 0 4 (dk_at dksJ16_numberOfLeadingZeros_0 10 rfl rfl)
theorem dJ16_numberOfLeadingZeros_13 : decode cJ16_numberOfLeadingZeros 13 = .ok (.iconst 0, 1) := dk_3 (dk_at dksJ16_numberOfLeadingZeros_0 13 rfl rfl)
theorem dJ16_numberOfLeadingZeros_14 : decode cJ16_numberOfLeadingZeros 14 = .ok (.ireturn, 1) := dk_172 (dk_at dksJ16_numberOfLeadingZeros_0 14 rfl rfl)
theorem dJ16_numberOfLeadingZeros_15 : decode cJ16_numberOfLeadingZeros 15 = .ok (.bipush 31, 2) := dk_16 31 (dk_at dksJ16_numberOfLeadingZeros_0 15 rfl rfl)
theorem dJ16_numberOfLeadingZeros_17 : decode cJ16_numberOfLeadingZeros 17 = .ok (.istore_n 1, 1) := dk_60 (dk_at dksJ16_numberOfLeadingZeros_0 17 rfl rfl)
theorem dJ16_numberOfLeadingZeros_18 : decode cJ16_numberOfLeadingZeros 18 = .ok (.iload_n 0, 1) := dk_26 (dk_at dksJ16_numberOfLeadingZeros_0 18 rfl rfl)
theorem dJ16_numberOfLeadingZeros_19 : decode cJ16_numberOfLeadingZeros 19 = .ok (.ldc_w 264, 3) := dk_19 1 8 (dk_at dksJ16_numberOfLeadingZeros_0 19 rfl rfl)
theorem dJ16_numberOfLeadingZeros_22 : decode cJ16_numberOfLeadingZeros 22 = .ok (.if_icmp .lt 11, 3) := dk_161 0 11 (dk_at dksJ16_numberOfLeadingZeros_1 0 rfl rfl)
theorem dJ16_numberOfLeadingZeros_25 : decode cJ16_numberOfLeadingZeros 25 = .ok (.iinc 1 (-16), 3) := dk_132 1 240 (dk_at dksJ16_numberOfLeadingZeros_1 3 rfl rfl)
theorem dJ16_numberOfLeadingZeros_28 : decode cJ16_numberOfLeadingZeros 28 = .ok (.iload_n 0, 1) := dk_26 (dk_at dksJ16_numberOfLeadingZeros_1 6 rfl rfl)
theorem dJ16_numberOfLeadingZeros_29 : decode cJ16_numberOfLeadingZeros 29 = .ok (.bipush 16, 2) := dk_16 16 (dk_at dksJ16_numberOfLeadingZeros_1 7 rfl rfl)
theorem dJ16_numberOfLeadingZeros_31 : decode cJ16_numberOfLeadingZeros 31 = .ok (.iushr, 1) := dk_124 (dk_at dksJ16_numberOfLeadingZeros_1 9 rfl rfl)
theorem dJ16_numberOfLeadingZeros_32 : decode cJ16_numberOfLeadingZeros 32 = .ok (.istore_n 0, 1) := dk_59 (dk_at dksJ16_numberOfLeadingZeros_1 10 rfl rfl)
theorem dJ16_numberOfLeadingZeros_33 : decode cJ16_numberOfLeadingZeros 33 = .ok (.iload_n 0, 1) := dk_26 (dk_at dksJ16_numberOfLeadingZeros_1 11 rfl rfl)
theorem dJ16_numberOfLeadingZeros_34 : decode cJ16_numberOfLeadingZeros 34 = .ok (.sipush 256, 3) := dk_17 1 0 (dk_at dksJ16_numberOfLeadingZeros_1 12 rfl rfl)
theorem dJ16_numberOfLeadingZeros_37 : decode cJ16_numberOfLeadingZeros 37 = .ok (.if_icmp .lt 11, 3) := dk_161 0 11 (dk_at dksJ16_numberOfLeadingZeros_1 15 rfl rfl)
theorem dJ16_numberOfLeadingZeros_40 : decode cJ16_numberOfLeadingZeros 40 = .ok (.iinc 1 (-8), 3) := dk_132 1 248 (dk_at dksJ16_numberOfLeadingZeros_1 18 rfl rfl)
theorem dJ16_numberOfLeadingZeros_43 : decode cJ16_numberOfLeadingZeros 43 = .ok (.iload_n 0, 1) := dk_26 (dk_at dksJ16_numberOfLeadingZeros_1 21 rfl rfl)
theorem dJ16_numberOfLeadingZeros_44 : decode cJ16_numberOfLeadingZeros 44 = .ok (.bipush 8, 2) := dk_16 8 (dk_at dksJ16_numberOfLeadingZeros_1 22 rfl rfl)
theorem dJ16_numberOfLeadingZeros_46 : decode cJ16_numberOfLeadingZeros 46 = .ok (.iushr, 1) := dk_124 (dk_at dksJ16_numberOfLeadingZeros_2 0 rfl rfl)
theorem dJ16_numberOfLeadingZeros_47 : decode cJ16_numberOfLeadingZeros 47 = .ok (.istore_n 0, 1) := dk_59 (dk_at dksJ16_numberOfLeadingZeros_2 1 rfl rfl)
theorem dJ16_numberOfLeadingZeros_48 : decode cJ16_numberOfLeadingZeros 48 = .ok (.iload_n 0, 1) := dk_26 (dk_at dksJ16_numberOfLeadingZeros_2 2 rfl rfl)
theorem dJ16_numberOfLeadingZeros_49 : decode cJ16_numberOfLeadingZeros 49 = .ok (.bipush 16, 2) := dk_16 16 (dk_at dksJ16_numberOfLeadingZeros_2 3 rfl rfl)
theorem dJ16_numberOfLeadingZeros_51 : decode cJ16_numberOfLeadingZeros 51 = .ok (.if_icmp .lt 10, 3) := dk_161 0 10 (dk_at dksJ16_numberOfLeadingZeros_2 5 rfl rfl)
theorem dJ16_numberOfLeadingZeros_54 : decode cJ16_numberOfLeadingZeros 54 = .ok (.iinc 1 (-4), 3) := dk_132 1 252 (dk_at dksJ16_numberOfLeadingZeros_2 8 rfl rfl)
theorem dJ16_numberOfLeadingZeros_57 : decode cJ16_numberOfLeadingZeros 57 = .ok (.iload_n 0, 1) := dk_26 (dk_at dksJ16_numberOfLeadingZeros_2 11 rfl rfl)
theorem dJ16_numberOfLeadingZeros_58 : decode cJ16_numberOfLeadingZeros 58 = .ok (.iconst 4, 1) := dk_7 (dk_at dksJ16_numberOfLeadingZeros_2 12 rfl rfl)
theorem dJ16_numberOfLeadingZeros_59 : decode cJ16_numberOfLeadingZeros 59 = .ok (.iushr, 1) := dk_124 (dk_at dksJ16_numberOfLeadingZeros_2 13 rfl rfl)
theorem dJ16_numberOfLeadingZeros_60 : decode cJ16_numberOfLeadingZeros 60 = .ok (.istore_n 0, 1) := dk_59 (dk_at dksJ16_numberOfLeadingZeros_2 14 rfl rfl)
theorem dJ16_numberOfLeadingZeros_61 : decode cJ16_numberOfLeadingZeros 61 = .ok (.iload_n 0, 1) := dk_26 (dk_at dksJ16_numberOfLeadingZeros_2 15 rfl rfl)
theorem dJ16_numberOfLeadingZeros_62 : decode cJ16_numberOfLeadingZeros 62 = .ok (.iconst 4, 1) := dk_7 (dk_at dksJ16_numberOfLeadingZeros_2 16 rfl rfl)
theorem dJ16_numberOfLeadingZeros_63 : decode cJ16_numberOfLeadingZeros 63 = .ok (.if_icmp .lt 10, 3) := dk_161 0 10 (dk_at dksJ16_numberOfLeadingZeros_2 17 rfl rfl)
theorem dJ16_numberOfLeadingZeros_66 : decode cJ16_numberOfLeadingZeros 66 = .ok (.iinc 1 (-2), 3) := dk_132 1 254 (dk_at dksJ16_numberOfLeadingZeros_2 20 rfl rfl)
theorem dJ16_numberOfLeadingZeros_69 : decode cJ16_numberOfLeadingZeros 69 = .ok (.iload_n 0, 1) := dk_26 (dk_at dksJ16_numberOfLeadingZeros_2 23 rfl rfl)
theorem dJ16_numberOfLeadingZeros_70 : decode cJ16_numberOfLeadingZeros 70 = .ok (.iconst 2, 1) := dk_5 (dk_at dksJ16_numberOfLeadingZeros_3 0 rfl rfl)
theorem dJ16_numberOfLeadingZeros_71 : decode cJ16_numberOfLeadingZeros 71 = .ok (.iushr, 1) := dk_124 (dk_at dksJ16_numberOfLeadingZeros_3 1 rfl rfl)
theorem dJ16_numberOfLeadingZeros_72 : decode cJ16_numberOfLeadingZeros 72 = .ok (.istore_n 0, 1) := dk_59 (dk_at dksJ16_numberOfLeadingZeros_3 2 rfl rfl)
theorem dJ16_numberOfLeadingZeros_73 : decode cJ16_numberOfLeadingZeros 73 = .ok (.iload_n 1, 1) := dk_27 (dk_at dksJ16_numberOfLeadingZeros_3 3 rfl rfl)
theorem dJ16_numberOfLeadingZeros_74 : decode cJ16_numberOfLeadingZeros 74 = .ok (.iload_n 0, 1) := dk_26 (dk_at dksJ16_numberOfLeadingZeros_3 4 rfl rfl)
theorem dJ16_numberOfLeadingZeros_75 : decode cJ16_numberOfLeadingZeros 75 = .ok (.iconst 1, 1) := dk_4 (dk_at dksJ16_numberOfLeadingZeros_3 5 rfl rfl)
theorem dJ16_numberOfLeadingZeros_76 : decode cJ16_numberOfLeadingZeros 76 = .ok (.iushr, 1) := dk_124 (dk_at dksJ16_numberOfLeadingZeros_3 6 rfl rfl)
theorem dJ16_numberOfLeadingZeros_77 : decode cJ16_numberOfLeadingZeros 77 = .ok (.isub, 1) := dk_100 (dk_at dksJ16_numberOfLeadingZeros_3 7 rfl rfl)
theorem dJ16_numberOfLeadingZeros_78 : decode cJ16_numberOfLeadingZeros 78 = .ok (.ireturn, 1) := dk_172 (dk_at dksJ16_numberOfLeadingZeros_3 8 rfl rfl)
abbrev cJ16_numberOfTrailingZeros : ByteArray := prog_29_method_48_code
def yJ16_numberOfTrailingZeros : MethodName := ⟨RJ16, "numberOfTrailingZeros", "(I)I"⟩
def dkwJ16_numberOfTrailingZeros_3 : List UInt8 := [5, 124, 59, 27, 26, 4, 124, 96, 172]
abbrev dktJ16_numberOfTrailingZeros_3 : List UInt8 := dkwJ16_numberOfTrailingZeros_3 ++ []
def dkwJ16_numberOfTrailingZeros_2 : List UInt8 := [124, 59, 26, 16, 16, 164, 0, 10, 132, 1, 4, 26, 7, 124, 59, 26, 7, 164, 0, 10, 132, 1, 2, 26]
abbrev dktJ16_numberOfTrailingZeros_2 : List UInt8 := dkwJ16_numberOfTrailingZeros_2 ++ dktJ16_numberOfTrailingZeros_3
def dkwJ16_numberOfTrailingZeros_1 : List UInt8 := [164, 0, 11, 132, 1, 16, 26, 16, 16, 124, 59, 26, 17, 1, 0, 164, 0, 11, 132, 1, 8, 26, 16, 8]
abbrev dktJ16_numberOfTrailingZeros_1 : List UInt8 := dkwJ16_numberOfTrailingZeros_1 ++ dktJ16_numberOfTrailingZeros_2
def dkwJ16_numberOfTrailingZeros_0 : List UInt8 := [26, 2, 130, 26, 4, 100, 126, 59, 26, 157, 0, 8, 26, 16, 32, 126, 172, 4, 60, 26, 19, 1, 8]
abbrev dktJ16_numberOfTrailingZeros_0 : List UInt8 := dkwJ16_numberOfTrailingZeros_0 ++ dktJ16_numberOfTrailingZeros_1
theorem dksJ16_numberOfTrailingZeros_0 : cJ16_numberOfTrailingZeros.data.toList.drop 0 = dktJ16_numberOfTrailingZeros_0 := by decide +kernel
theorem dksJ16_numberOfTrailingZeros_1 : cJ16_numberOfTrailingZeros.data.toList.drop 23 = dktJ16_numberOfTrailingZeros_1 := dk_seg dksJ16_numberOfTrailingZeros_0 23 rfl rfl
theorem dksJ16_numberOfTrailingZeros_2 : cJ16_numberOfTrailingZeros.data.toList.drop 47 = dktJ16_numberOfTrailingZeros_2 := dk_seg dksJ16_numberOfTrailingZeros_1 24 rfl rfl
theorem dksJ16_numberOfTrailingZeros_3 : cJ16_numberOfTrailingZeros.data.toList.drop 71 = dktJ16_numberOfTrailingZeros_3 := dk_seg dksJ16_numberOfTrailingZeros_2 24 rfl rfl
theorem dJ16_numberOfTrailingZeros_0 : decode cJ16_numberOfTrailingZeros 0 = .ok (.iload_n 0, 1) := dk_26 (dk_at dksJ16_numberOfTrailingZeros_0 0 rfl rfl)
theorem dJ16_numberOfTrailingZeros_1 : decode cJ16_numberOfTrailingZeros 1 = .ok (.iconst (-1), 1) := dk_2 (dk_at dksJ16_numberOfTrailingZeros_0 1 rfl rfl)
theorem dJ16_numberOfTrailingZeros_2 : decode cJ16_numberOfTrailingZeros 2 = .ok (.ixor, 1) := dk_130 (dk_at dksJ16_numberOfTrailingZeros_0 2 rfl rfl)
theorem dJ16_numberOfTrailingZeros_3 : decode cJ16_numberOfTrailingZeros 3 = .ok (.iload_n 0, 1) := dk_26 (dk_at dksJ16_numberOfTrailingZeros_0 3 rfl rfl)
theorem dJ16_numberOfTrailingZeros_4 : decode cJ16_numberOfTrailingZeros 4 = .ok (.iconst 1, 1) := dk_4 (dk_at dksJ16_numberOfTrailingZeros_0 4 rfl rfl)
theorem dJ16_numberOfTrailingZeros_5 : decode cJ16_numberOfTrailingZeros 5 = .ok (.isub, 1) := dk_100 (dk_at dksJ16_numberOfTrailingZeros_0 5 rfl rfl)
theorem dJ16_numberOfTrailingZeros_6 : decode cJ16_numberOfTrailingZeros 6 = .ok (.iand, 1) := dk_126 (dk_at dksJ16_numberOfTrailingZeros_0 6 rfl rfl)
theorem dJ16_numberOfTrailingZeros_7 : decode cJ16_numberOfTrailingZeros 7 = .ok (.istore_n 0, 1) := dk_59 (dk_at dksJ16_numberOfTrailingZeros_0 7 rfl rfl)
theorem dJ16_numberOfTrailingZeros_8 : decode cJ16_numberOfTrailingZeros 8 = .ok (.iload_n 0, 1) := dk_26 (dk_at dksJ16_numberOfTrailingZeros_0 8 rfl rfl)
theorem dJ16_numberOfTrailingZeros_9 : decode cJ16_numberOfTrailingZeros 9 = .ok (.ifCond .gt 8, 3) := dk_157 0 8 (dk_at dksJ16_numberOfTrailingZeros_0 9 rfl rfl)
theorem dJ16_numberOfTrailingZeros_12 : decode cJ16_numberOfTrailingZeros 12 = .ok (.iload_n 0, 1) := dk_26 (dk_at dksJ16_numberOfTrailingZeros_0 12 rfl rfl)
theorem dJ16_numberOfTrailingZeros_13 : decode cJ16_numberOfTrailingZeros 13 = .ok (.bipush 32, 2) := dk_16 32 (dk_at dksJ16_numberOfTrailingZeros_0 13 rfl rfl)
theorem dJ16_numberOfTrailingZeros_15 : decode cJ16_numberOfTrailingZeros 15 = .ok (.iand, 1) := dk_126 (dk_at dksJ16_numberOfTrailingZeros_0 15 rfl rfl)
theorem dJ16_numberOfTrailingZeros_16 : decode cJ16_numberOfTrailingZeros 16 = .ok (.ireturn, 1) := dk_172 (dk_at dksJ16_numberOfTrailingZeros_0 16 rfl rfl)
theorem dJ16_numberOfTrailingZeros_17 : decode cJ16_numberOfTrailingZeros 17 = .ok (.iconst 1, 1) := dk_4 (dk_at dksJ16_numberOfTrailingZeros_0 17 rfl rfl)
theorem dJ16_numberOfTrailingZeros_18 : decode cJ16_numberOfTrailingZeros 18 = .ok (.istore_n 1, 1) := dk_60 (dk_at dksJ16_numberOfTrailingZeros_0 18 rfl rfl)
theorem dJ16_numberOfTrailingZeros_19 : decode cJ16_numberOfTrailingZeros 19 = .ok (.iload_n 0, 1) := dk_26 (dk_at dksJ16_numberOfTrailingZeros_0 19 rfl rfl)
theorem dJ16_numberOfTrailingZeros_20 : decode cJ16_numberOfTrailingZeros 20 = .ok (.ldc_w 264, 3) := dk_19 1 8 (dk_at dksJ16_numberOfTrailingZeros_0 20 rfl rfl)
theorem dJ16_numberOfTrailingZeros_23 : decode cJ16_numberOfTrailingZeros 23 = .ok (.if_icmp .le 11, 3) := dk_164 0 11 (dk_at dksJ16_numberOfTrailingZeros_1 0 rfl rfl)
theorem dJ16_numberOfTrailingZeros_26 : decode cJ16_numberOfTrailingZeros 26 = .ok (.iinc 1 16, 3) := dk_132 1 16 (dk_at dksJ16_numberOfTrailingZeros_1 3 rfl rfl)
theorem dJ16_numberOfTrailingZeros_29 : decode cJ16_numberOfTrailingZeros 29 = .ok (.iload_n 0, 1) := dk_26 (dk_at dksJ16_numberOfTrailingZeros_1 6 rfl rfl)
theorem dJ16_numberOfTrailingZeros_30 : decode cJ16_numberOfTrailingZeros 30 = .ok (.bipush 16, 2) := dk_16 16 (dk_at dksJ16_numberOfTrailingZeros_1 7 rfl rfl)
theorem dJ16_numberOfTrailingZeros_32 : decode cJ16_numberOfTrailingZeros 32 = .ok (.iushr, 1) := dk_124 (dk_at dksJ16_numberOfTrailingZeros_1 9 rfl rfl)
theorem dJ16_numberOfTrailingZeros_33 : decode cJ16_numberOfTrailingZeros 33 = .ok (.istore_n 0, 1) := dk_59 (dk_at dksJ16_numberOfTrailingZeros_1 10 rfl rfl)
theorem dJ16_numberOfTrailingZeros_34 : decode cJ16_numberOfTrailingZeros 34 = .ok (.iload_n 0, 1) := dk_26 (dk_at dksJ16_numberOfTrailingZeros_1 11 rfl rfl)
theorem dJ16_numberOfTrailingZeros_35 : decode cJ16_numberOfTrailingZeros 35 = .ok (.sipush 256, 3) := dk_17 1 0 (dk_at dksJ16_numberOfTrailingZeros_1 12 rfl rfl)
theorem dJ16_numberOfTrailingZeros_38 : decode cJ16_numberOfTrailingZeros 38 = .ok (.if_icmp .le 11, 3) := dk_164 0 11 (dk_at dksJ16_numberOfTrailingZeros_1 15 rfl rfl)
theorem dJ16_numberOfTrailingZeros_41 : decode cJ16_numberOfTrailingZeros 41 = .ok (.iinc 1 8, 3) := dk_132 1 8 (dk_at dksJ16_numberOfTrailingZeros_1 18 rfl rfl)
theorem dJ16_numberOfTrailingZeros_44 : decode cJ16_numberOfTrailingZeros 44 = .ok (.iload_n 0, 1) := dk_26 (dk_at dksJ16_numberOfTrailingZeros_1 21 rfl rfl)
theorem dJ16_numberOfTrailingZeros_45 : decode cJ16_numberOfTrailingZeros 45 = .ok (.bipush 8, 2) := dk_16 8 (dk_at dksJ16_numberOfTrailingZeros_1 22 rfl rfl)
theorem dJ16_numberOfTrailingZeros_47 : decode cJ16_numberOfTrailingZeros 47 = .ok (.iushr, 1) := dk_124 (dk_at dksJ16_numberOfTrailingZeros_2 0 rfl rfl)
theorem dJ16_numberOfTrailingZeros_48 : decode cJ16_numberOfTrailingZeros 48 = .ok (.istore_n 0, 1) := dk_59 (dk_at dksJ16_numberOfTrailingZeros_2 1 rfl rfl)
theorem dJ16_numberOfTrailingZeros_49 : decode cJ16_numberOfTrailingZeros 49 = .ok (.iload_n 0, 1) := dk_26 (dk_at dksJ16_numberOfTrailingZeros_2 2 rfl rfl)
theorem dJ16_numberOfTrailingZeros_50 : decode cJ16_numberOfTrailingZeros 50 = .ok (.bipush 16, 2) := dk_16 16 (dk_at dksJ16_numberOfTrailingZeros_2 3 rfl rfl)
theorem dJ16_numberOfTrailingZeros_52 : decode cJ16_numberOfTrailingZeros 52 = .ok (.if_icmp .le 10, 3) := dk_164 0 10 (dk_at dksJ16_numberOfTrailingZeros_2 5 rfl rfl)
theorem dJ16_numberOfTrailingZeros_55 : decode cJ16_numberOfTrailingZeros 55 = .ok (.iinc 1 4, 3) := dk_132 1 4 (dk_at dksJ16_numberOfTrailingZeros_2 8 rfl rfl)
theorem dJ16_numberOfTrailingZeros_58 : decode cJ16_numberOfTrailingZeros 58 = .ok (.iload_n 0, 1) := dk_26 (dk_at dksJ16_numberOfTrailingZeros_2 11 rfl rfl)
theorem dJ16_numberOfTrailingZeros_59 : decode cJ16_numberOfTrailingZeros 59 = .ok (.iconst 4, 1) := dk_7 (dk_at dksJ16_numberOfTrailingZeros_2 12 rfl rfl)
theorem dJ16_numberOfTrailingZeros_60 : decode cJ16_numberOfTrailingZeros 60 = .ok (.iushr, 1) := dk_124 (dk_at dksJ16_numberOfTrailingZeros_2 13 rfl rfl)
theorem dJ16_numberOfTrailingZeros_61 : decode cJ16_numberOfTrailingZeros 61 = .ok (.istore_n 0, 1) := dk_59 (dk_at dksJ16_numberOfTrailingZeros_2 14 rfl rfl)
theorem dJ16_numberOfTrailingZeros_62 : decode cJ16_numberOfTrailingZeros 62 = .ok (.iload_n 0, 1) := dk_26 (dk_at dksJ16_numberOfTrailingZeros_2 15 rfl rfl)
theorem dJ16_numberOfTrailingZeros_63 : decode cJ16_numberOfTrailingZeros 63 = .ok (.iconst 4, 1) := dk_7 (dk_at dksJ16_numberOfTrailingZeros_2 16 rfl rfl)
theorem dJ16_numberOfTrailingZeros_64 : decode cJ16_numberOfTrailingZeros 64 = .ok (.if_icmp .le 10, 3) := dk_164 0 10 (dk_at dksJ16_numberOfTrailingZeros_2 17 rfl rfl)
theorem dJ16_numberOfTrailingZeros_67 : decode cJ16_numberOfTrailingZeros 67 = .ok (.iinc 1 2, 3) := dk_132 1 2 (dk_at dksJ16_numberOfTrailingZeros_2 20 rfl rfl)
theorem dJ16_numberOfTrailingZeros_70 : decode cJ16_numberOfTrailingZeros 70 = .ok (.iload_n 0, 1) := dk_26 (dk_at dksJ16_numberOfTrailingZeros_2 23 rfl rfl)
theorem dJ16_numberOfTrailingZeros_71 : decode cJ16_numberOfTrailingZeros 71 = .ok (.iconst 2, 1) := dk_5 (dk_at dksJ16_numberOfTrailingZeros_3 0 rfl rfl)
theorem dJ16_numberOfTrailingZeros_72 : decode cJ16_numberOfTrailingZeros 72 = .ok (.iushr, 1) := dk_124 (dk_at dksJ16_numberOfTrailingZeros_3 1 rfl rfl)
theorem dJ16_numberOfTrailingZeros_73 : decode cJ16_numberOfTrailingZeros 73 = .ok (.istore_n 0, 1) := dk_59 (dk_at dksJ16_numberOfTrailingZeros_3 2 rfl rfl)
theorem dJ16_numberOfTrailingZeros_74 : decode cJ16_numberOfTrailingZeros 74 = .ok (.iload_n 1, 1) := dk_27 (dk_at dksJ16_numberOfTrailingZeros_3 3 rfl rfl)
theorem dJ16_numberOfTrailingZeros_75 : decode cJ16_numberOfTrailingZeros 75 = .ok (.iload_n 0, 1) := dk_26 (dk_at dksJ16_numberOfTrailingZeros_3 4 rfl rfl)
theorem dJ16_numberOfTrailingZeros_76 : decode cJ16_numberOfTrailingZeros 76 = .ok (.iconst 1, 1) := dk_4 (dk_at dksJ16_numberOfTrailingZeros_3 5 rfl rfl)
theorem dJ16_numberOfTrailingZeros_77 : decode cJ16_numberOfTrailingZeros 77 = .ok (.iushr, 1) := dk_124 (dk_at dksJ16_numberOfTrailingZeros_3 6 rfl rfl)
theorem dJ16_numberOfTrailingZeros_78 : decode cJ16_numberOfTrailingZeros 78 = .ok (.iadd, 1) := dk_96 (dk_at dksJ16_numberOfTrailingZeros_3 7 rfl rfl)
theorem dJ16_numberOfTrailingZeros_79 : decode cJ16_numberOfTrailingZeros 79 = .ok (.ireturn, 1) := dk_172 (dk_at dksJ16_numberOfTrailingZeros_3 8 rfl rfl)
theorem q149 : (Jvm.Cond.initialized "java/lang/Integer") ∈ lw_all := lw_g (lw_at lw_m1 21 rfl) rfl
theorem q412 : (Jvm.Cond.static ({ cls := "java/lang/Integer", name := "stringSize", desc := "(I)I" } : Jvm.MethodName)) ∈ lw_all := lw_g (lw_at lw_m2 44 rfl) rfl
theorem q413 : (Jvm.Cond.code ({ cls := "java/lang/Integer", name := "stringSize", desc := "(I)I" } : Jvm.MethodName) prog_29_method_13_code (4 : Nat) (Option.some Jvm.ClassFile.FieldType.int)) ∈ lw_all := lw_g (lw_at lw_m2 45 rfl) rfl
theorem q415 : (Jvm.Cond.static ({ cls := "java/lang/Integer", name := "getChars", desc := "(II[B)I" } : Jvm.MethodName)) ∈ lw_all := lw_g (lw_at lw_m2 47 rfl) rfl
theorem q416 : (Jvm.Cond.code ({ cls := "java/lang/Integer", name := "getChars", desc := "(II[B)I" } : Jvm.MethodName) prog_29_method_12_code (7 : Nat) (Option.some Jvm.ClassFile.FieldType.int)) ∈ lw_all := lw_g (lw_at lw_m2 48 rfl) rfl
theorem q417 : (Jvm.Cond.fieldLink "java/lang/Integer" (83 : Nat) "java/lang/Integer" "DigitOnes" "[B") ∈ lw_all := lw_g (lw_at lw_m2 49 rfl) rfl
theorem q418 : (Jvm.Cond.laysStatic "java/lang/Integer" "DigitOnes" "[B") ∈ lw_tbl := lw_at lw_m2 50 rfl
theorem q419 : (Jvm.Cond.fieldLink "java/lang/Integer" (87 : Nat) "java/lang/Integer" "DigitTens" "[B") ∈ lw_all := lw_g (lw_at lw_m2 51 rfl) rfl
theorem q420 : (Jvm.Cond.laysStatic "java/lang/Integer" "DigitTens" "[B") ∈ lw_tbl := lw_at lw_m2 52 rfl
theorem q1235 : (Jvm.Cond.static ({ cls := "java/lang/Integer", name := "numberOfLeadingZeros", desc := "(I)I" } : Jvm.MethodName)) ∈ lw_all := lw_g (lw_at lw_m5 147 rfl) rfl
theorem q1236 : (Jvm.Cond.code ({ cls := "java/lang/Integer", name := "numberOfLeadingZeros", desc := "(I)I" } : Jvm.MethodName) prog_29_method_47_code (2 : Nat) (Option.some Jvm.ClassFile.FieldType.int)) ∈ lw_all := lw_g (lw_at lw_m5 148 rfl) rfl
theorem q1237 : (Jvm.Cond.constant "java/lang/Integer" (264 : Nat) (65536 : Int32)) ∈ lw_all := lw_g (lw_at lw_m5 149 rfl) rfl
theorem q1244 : (Jvm.Cond.static ({ cls := "java/lang/Integer", name := "numberOfTrailingZeros", desc := "(I)I" } : Jvm.MethodName)) ∈ lw_all := lw_g (lw_at lw_m5 156 rfl) rfl
theorem q1245 : (Jvm.Cond.code ({ cls := "java/lang/Integer", name := "numberOfTrailingZeros", desc := "(I)I" } : Jvm.MethodName) prog_29_method_48_code (2 : Nat) (Option.some Jvm.ClassFile.FieldType.int)) ∈ lw_all := lw_g (lw_at lw_m5 157 rfl) rfl
/-! java/lang/Record -/
set_option maxRecDepth 100000
def RJ17 : String := "java/lang/Record"
abbrev cJ17_init : ByteArray := prog_34_method_1_code
def yJ17_init : MethodName := ⟨RJ17, "<init>", "()V"⟩
theorem dJ17_init_0 : decode cJ17_init 0 = .ok (.aload_n 0, 1) := by decide +kernel
theorem dJ17_init_1 : decode cJ17_init 1 = .ok (.invokespecial 1, 3) := by decide +kernel
theorem dJ17_init_4 : decode cJ17_init 4 = .ok (.return_, 1) := by decide +kernel
theorem q150 : (Jvm.Cond.initialized "java/lang/Record") ∈ lw_all := lw_g (lw_at lw_m1 22 rfl) rfl
theorem q544 : (Jvm.Cond.instanceMethod ({ cls := "java/lang/Record", name := "<init>", desc := "()V" } : Jvm.MethodName)) ∈ lw_all := lw_g (lw_at lw_m2 176 rfl) rfl
theorem q545 : (Jvm.Cond.code ({ cls := "java/lang/Record", name := "<init>", desc := "()V" } : Jvm.MethodName) prog_34_method_1_code (1 : Nat) (Option.none : Option Jvm.ClassFile.FieldType)) ∈ lw_all := lw_g (lw_at lw_m2 177 rfl) rfl
theorem q546 : (Jvm.Cond.methodLink "java/lang/Record" (1 : Nat) ({ cls := "java/lang/Object", name := "<init>", desc := "()V" } : Jvm.MethodName)) ∈ lw_all := lw_g (lw_at lw_m2 178 rfl) rfl
/-! java/util/AbstractSequentialList -/
set_option maxRecDepth 100000
def RJ18 : String := "java/util/AbstractSequentialList"
abbrev cJ18_init : ByteArray := prog_49_method_1_code
def yJ18_init : MethodName := ⟨RJ18, "<init>", "()V"⟩
theorem dJ18_init_0 : decode cJ18_init 0 = .ok (.aload_n 0, 1) := by decide +kernel
theorem dJ18_init_1 : decode cJ18_init 1 = .ok (.invokespecial 1, 3) := by decide +kernel
theorem dJ18_init_4 : decode cJ18_init 4 = .ok (.return_, 1) := by decide +kernel
theorem q154 : (Jvm.Cond.initialized "java/util/AbstractSequentialList") ∈ lw_all := lw_g (lw_at lw_m1 26 rfl) rfl
theorem q669 : (Jvm.Cond.instanceMethod ({ cls := "java/util/AbstractSequentialList", name := "<init>", desc := "()V" } : Jvm.MethodName)) ∈ lw_all := lw_g (lw_at lw_m3 61 rfl) rfl
theorem q670 : (Jvm.Cond.code ({ cls := "java/util/AbstractSequentialList", name := "<init>", desc := "()V" } : Jvm.MethodName) prog_49_method_1_code (1 : Nat) (Option.none : Option Jvm.ClassFile.FieldType)) ∈ lw_all := lw_g (lw_at lw_m3 62 rfl) rfl
theorem q671 : (Jvm.Cond.methodLink "java/util/AbstractSequentialList" (1 : Nat) ({ cls := "java/util/AbstractList", name := "<init>", desc := "()V" } : Jvm.MethodName)) ∈ lw_all := lw_g (lw_at lw_m3 63 rfl) rfl
/-! java/util/LinkedList -/
set_option maxRecDepth 100000
def RJ19 : String := "java/util/LinkedList"
def TJ19 : u_T := fun k => match k with
  | 0 => ("java/util/AbstractList", "modCount", "I", false)
  | 1 => ("java/util/LinkedList", "size", "I", false)
  | 2 => ("java/util/LinkedList", "first", "Ljava/util/LinkedList$Node;", false)
  | _ => ("java/util/LinkedList", "last", "Ljava/util/LinkedList$Node;", false)
def tyJ19 : Nat → FieldType := fun k => match k with
  | 0 => .int
  | 1 => .int
  | 2 => .object "java/util/LinkedList$Node"
  | _ => .object "java/util/LinkedList$Node"
abbrev wsJ190 : List Cond := u_ws RJ19 TJ19 4
theorem nmJ19 : ∀ a, a < 4 → ∀ b, b < 4 → a ≠ b → (TJ19 a).2.1 ≠ (TJ19 b).2.1 := by decide +kernel
theorem tyJ19_ok : ∀ k, k < 4 → parseFieldDescriptor (TJ19 k).2.2.1 = some (tyJ19 k) := by decide +kernel
abbrev cJ19_init : ByteArray := prog_54_method_1_code
def yJ19_init : MethodName := ⟨RJ19, "<init>", "()V"⟩
def dkwJ19_init_0 : List UInt8 := [42, 183, 0, 1, 42, 3, 181, 0, 7, 177]
abbrev dktJ19_init_0 : List UInt8 := dkwJ19_init_0 ++ []
theorem dksJ19_init_0 : cJ19_init.data.toList.drop 0 = dktJ19_init_0 := by decide +kernel
theorem dJ19_init_0 : decode cJ19_init 0 = .ok (.aload_n 0, 1) := dk_42 (dk_at dksJ19_init_0 0 rfl rfl)
theorem dJ19_init_1 : decode cJ19_init 1 = .ok (.invokespecial 1, 3) := dk_183 0 1 (dk_at dksJ19_init_0 1 rfl rfl)
theorem dJ19_init_4 : decode cJ19_init 4 = .ok (.aload_n 0, 1) := dk_42 (dk_at dksJ19_init_0 4 rfl rfl)
theorem dJ19_init_5 : decode cJ19_init 5 = .ok (.iconst 0, 1) := dk_3 (dk_at dksJ19_init_0 5 rfl rfl)
theorem dJ19_init_6 : decode cJ19_init 6 = .ok (.putfield 7, 3) := dk_181 0 7 (dk_at dksJ19_init_0 6 rfl rfl)
theorem dJ19_init_9 : decode cJ19_init 9 = .ok (.return_, 1) := dk_177 (dk_at dksJ19_init_0 9 rfl rfl)
abbrev cJ19_size : ByteArray := prog_54_method_16_code
def yJ19_size : MethodName := ⟨RJ19, "size", "()I"⟩
theorem dJ19_size_0 : decode cJ19_size 0 = .ok (.aload_n 0, 1) := by decide +kernel
theorem dJ19_size_1 : decode cJ19_size 1 = .ok (.getfield 7, 3) := by decide +kernel
theorem dJ19_size_4 : decode cJ19_size 4 = .ok (.ireturn, 1) := by decide +kernel
abbrev cJ19_get : ByteArray := prog_54_method_22_code
def yJ19_get : MethodName := ⟨RJ19, "get", "(I)Ljava/lang/Object;"⟩
def dkwJ19_get_0 : List UInt8 := [42, 27, 182, 0, 90, 42, 27, 182, 0, 86, 180, 0, 39, 176]
abbrev dktJ19_get_0 : List UInt8 := dkwJ19_get_0 ++ []
theorem dksJ19_get_0 : cJ19_get.data.toList.drop 0 = dktJ19_get_0 := by decide +kernel
theorem dJ19_get_0 : decode cJ19_get 0 = .ok (.aload_n 0, 1) := dk_42 (dk_at dksJ19_get_0 0 rfl rfl)
theorem dJ19_get_1 : decode cJ19_get 1 = .ok (.iload_n 1, 1) := dk_27 (dk_at dksJ19_get_0 1 rfl rfl)
theorem dJ19_get_2 : decode cJ19_get 2 = .ok (.invokevirtual 90, 3) := dk_182 0 90 (dk_at dksJ19_get_0 2 rfl rfl)
theorem dJ19_get_5 : decode cJ19_get 5 = .ok (.aload_n 0, 1) := dk_42 (dk_at dksJ19_get_0 5 rfl rfl)
theorem dJ19_get_6 : decode cJ19_get 6 = .ok (.iload_n 1, 1) := dk_27 (dk_at dksJ19_get_0 6 rfl rfl)
theorem dJ19_get_7 : decode cJ19_get 7 = .ok (.invokevirtual 86, 3) := dk_182 0 86 (dk_at dksJ19_get_0 7 rfl rfl)
theorem dJ19_get_10 : decode cJ19_get 10 = .ok (.getfield 39, 3) := dk_180 0 39 (dk_at dksJ19_get_0 10 rfl rfl)
theorem dJ19_get_13 : decode cJ19_get 13 = .ok (.areturn, 1) := dk_176 (dk_at dksJ19_get_0 13 rfl rfl)
abbrev cJ19_checkElementIndex : ByteArray := prog_54_method_29_code
def yJ19_checkElementIndex : MethodName := ⟨RJ19, "checkElementIndex", "(I)V"⟩
def dkwJ19_checkElementIndex_0 : List UInt8 := [42, 27, 182, 0, 115, 154, 0, 16, 187, 0, 119, 89, 42, 27, 182, 0, 121, 183, 0, 125, 191, 177]
abbrev dktJ19_checkElementIndex_0 : List UInt8 := dkwJ19_checkElementIndex_0 ++ []
theorem dksJ19_checkElementIndex_0 : cJ19_checkElementIndex.data.toList.drop 0 = dktJ19_checkElementIndex_0 := by decide +kernel
theorem dJ19_checkElementIndex_0 : decode cJ19_checkElementIndex 0 = .ok (.aload_n 0, 1) := dk_42 (dk_at dksJ19_checkElementIndex_0 0 rfl rfl)
theorem dJ19_checkElementIndex_1 : decode cJ19_checkElementIndex 1 = .ok (.iload_n 1, 1) := dk_27 (dk_at dksJ19_checkElementIndex_0 1 rfl rfl)
theorem dJ19_checkElementIndex_2 : decode cJ19_checkElementIndex 2 = .ok (.invokevirtual 115, 3) := dk_182 0 115 (dk_at dksJ19_checkElementIndex_0 2 rfl rfl)
theorem dJ19_checkElementIndex_5 : decode cJ19_checkElementIndex 5 = .ok (.ifCond .ne 16, 3) := dk_154 0 16 (dk_at dksJ19_checkElementIndex_0 5 rfl rfl)
theorem dJ19_checkElementIndex_8 : decode cJ19_checkElementIndex 8 = .ok (.new 119, 3) := dk_187 0 119 (dk_at dksJ19_checkElementIndex_0 8 rfl rfl)
theorem dJ19_checkElementIndex_11 : decode cJ19_checkElementIndex 11 = .ok (.dup, 1) := dk_89 (dk_at dksJ19_checkElementIndex_0 11 rfl rfl)
theorem dJ19_checkElementIndex_12 : decode cJ19_checkElementIndex 12 = .ok (.aload_n 0, 1) := dk_42 (dk_at dksJ19_checkElementIndex_0 12 rfl rfl)
theorem dJ19_checkElementIndex_13 : decode cJ19_checkElementIndex 13 = .ok (.iload_n 1, 1) := dk_27 (dk_at dksJ19_checkElementIndex_0 13 rfl rfl)
theorem dJ19_checkElementIndex_14 : decode cJ19_checkElementIndex 14 = .ok (.invokevirtual 121, 3) := dk_182 0 121 (dk_at dksJ19_checkElementIndex_0 14 rfl rfl)
theorem dJ19_checkElementIndex_17 : decode cJ19_checkElementIndex 17 = .ok (.invokespecial 125, 3) := dk_183 0 125 (dk_at dksJ19_checkElementIndex_0 17 rfl rfl)
theorem dJ19_checkElementIndex_20 : decode cJ19_checkElementIndex 20 = .ok (.athrow, 1) := dk_191 (dk_at dksJ19_checkElementIndex_0 20 rfl rfl)
theorem dJ19_checkElementIndex_21 : decode cJ19_checkElementIndex 21 = .ok (.return_, 1) := dk_177 (dk_at dksJ19_checkElementIndex_0 21 rfl rfl)
abbrev cJ19_isElementIndex : ByteArray := prog_54_method_26_code
def yJ19_isElementIndex : MethodName := ⟨RJ19, "isElementIndex", "(I)Z"⟩
def dkwJ19_isElementIndex_0 : List UInt8 := [27, 155, 0, 15, 27, 42, 180, 0, 7, 162, 0, 7, 4, 167, 0, 4, 3, 172]
abbrev dktJ19_isElementIndex_0 : List UInt8 := dkwJ19_isElementIndex_0 ++ []
theorem dksJ19_isElementIndex_0 : cJ19_isElementIndex.data.toList.drop 0 = dktJ19_isElementIndex_0 := by decide +kernel
theorem dJ19_isElementIndex_0 : decode cJ19_isElementIndex 0 = .ok (.iload_n 1, 1) := dk_27 (dk_at dksJ19_isElementIndex_0 0 rfl rfl)
theorem dJ19_isElementIndex_1 : decode cJ19_isElementIndex 1 = .ok (.ifCond .lt 15, 3) := dk_155 0 15 (dk_at dksJ19_isElementIndex_0 1 rfl rfl)
theorem dJ19_isElementIndex_4 : decode cJ19_isElementIndex 4 = .ok (.iload_n 1, 1) := dk_27 (dk_at dksJ19_isElementIndex_0 4 rfl rfl)
theorem dJ19_isElementIndex_5 : decode cJ19_isElementIndex 5 = .ok (.aload_n 0, 1) := dk_42 (dk_at dksJ19_isElementIndex_0 5 rfl rfl)
theorem dJ19_isElementIndex_6 : decode cJ19_isElementIndex 6 = .ok (.getfield 7, 3) := dk_180 0 7 (dk_at dksJ19_isElementIndex_0 6 rfl rfl)
theorem dJ19_isElementIndex_9 : decode cJ19_isElementIndex 9 = .ok (.if_icmp .ge 7, 3) := dk_162 0 7 (dk_at dksJ19_isElementIndex_0 9 rfl rfl)
theorem dJ19_isElementIndex_12 : decode cJ19_isElementIndex 12 = .ok (.iconst 1, 1) := dk_4 (dk_at dksJ19_isElementIndex_0 12 rfl rfl)
theorem dJ19_isElementIndex_13 : decode cJ19_isElementIndex 13 = .ok (.goto 4, 3) := dk_167 0 4 (dk_at dksJ19_isElementIndex_0 13 rfl rfl)
theorem dJ19_isElementIndex_16 : decode cJ19_isElementIndex 16 = .ok (.iconst 0, 1) := dk_3 (dk_at dksJ19_isElementIndex_0 16 rfl rfl)
theorem dJ19_isElementIndex_17 : decode cJ19_isElementIndex 17 = .ok (.ireturn, 1) := dk_172 (dk_at dksJ19_isElementIndex_0 17 rfl rfl)
abbrev cJ19_outOfBoundsMsg : ByteArray := prog_54_method_28_code
def yJ19_outOfBoundsMsg : MethodName := ⟨RJ19, "outOfBoundsMsg", "(I)Ljava/lang/String;"⟩
def dkwJ19_outOfBoundsMsg_1 : List UInt8 := [180, 0, 7, 182, 0, 106, 182, 0, 111, 176]
abbrev dktJ19_outOfBoundsMsg_1 : List UInt8 := dkwJ19_outOfBoundsMsg_1 ++ []
def dkwJ19_outOfBoundsMsg_0 : List UInt8 := [187, 0, 97, 89, 183, 0, 99, 18, 100, 182, 0, 102, 27, 182, 0, 106, 18, 109, 182, 0, 102, 42]
abbrev dktJ19_outOfBoundsMsg_0 : List UInt8 := dkwJ19_outOfBoundsMsg_0 ++ dktJ19_outOfBoundsMsg_1
theorem dksJ19_outOfBoundsMsg_0 : cJ19_outOfBoundsMsg.data.toList.drop 0 = dktJ19_outOfBoundsMsg_0 := by decide +kernel
theorem dksJ19_outOfBoundsMsg_1 : cJ19_outOfBoundsMsg.data.toList.drop 22 = dktJ19_outOfBoundsMsg_1 := dk_seg dksJ19_outOfBoundsMsg_0 22 rfl rfl
theorem dJ19_outOfBoundsMsg_0 : decode cJ19_outOfBoundsMsg 0 = .ok (.new 97, 3) := dk_187 0 97 (dk_at dksJ19_outOfBoundsMsg_0 0 rfl rfl)
theorem dJ19_outOfBoundsMsg_3 : decode cJ19_outOfBoundsMsg 3 = .ok (.dup, 1) := dk_89 (dk_at dksJ19_outOfBoundsMsg_0 3 rfl rfl)
theorem dJ19_outOfBoundsMsg_4 : decode cJ19_outOfBoundsMsg 4 = .ok (.invokespecial 99, 3) := dk_183 0 99 (dk_at dksJ19_outOfBoundsMsg_0 4 rfl rfl)
theorem dJ19_outOfBoundsMsg_7 : decode cJ19_outOfBoundsMsg 7 = .ok (.ldc 100, 2) := dk_18 100 (dk_at dksJ19_outOfBoundsMsg_0 7 rfl rfl)
theorem dJ19_outOfBoundsMsg_9 : decode cJ19_outOfBoundsMsg 9 = .ok (.invokevirtual 102, 3) := dk_182 0 102 (dk_at dksJ19_outOfBoundsMsg_0 9 rfl rfl)
theorem dJ19_outOfBoundsMsg_12 : decode cJ19_outOfBoundsMsg 12 = .ok (.iload_n 1, 1) := dk_27 (dk_at dksJ19_outOfBoundsMsg_0 12 rfl rfl)
theorem dJ19_outOfBoundsMsg_13 : decode cJ19_outOfBoundsMsg 13 = .ok (.invokevirtual 106, 3) := dk_182 0 106 (dk_at dksJ19_outOfBoundsMsg_0 13 rfl rfl)
theorem dJ19_outOfBoundsMsg_16 : decode cJ19_outOfBoundsMsg 16 = .ok (.ldc 109, 2) := dk_18 109 (dk_at dksJ19_outOfBoundsMsg_0 16 rfl rfl)
theorem dJ19_outOfBoundsMsg_18 : decode cJ19_outOfBoundsMsg 18 = .ok (.invokevirtual 102, 3) := dk_182 0 102 (dk_at dksJ19_outOfBoundsMsg_0 18 rfl rfl)
theorem dJ19_outOfBoundsMsg_21 : decode cJ19_outOfBoundsMsg 21 = .ok (.aload_n 0, 1) := dk_42 (dk_at dksJ19_outOfBoundsMsg_0 21 rfl rfl)
theorem dJ19_outOfBoundsMsg_22 : decode cJ19_outOfBoundsMsg 22 = .ok (.getfield 7, 3) := dk_180 0 7 (dk_at dksJ19_outOfBoundsMsg_1 0 rfl rfl)
theorem dJ19_outOfBoundsMsg_25 : decode cJ19_outOfBoundsMsg 25 = .ok (.invokevirtual 106, 3) := dk_182 0 106 (dk_at dksJ19_outOfBoundsMsg_1 3 rfl rfl)
theorem dJ19_outOfBoundsMsg_28 : decode cJ19_outOfBoundsMsg 28 = .ok (.invokevirtual 111, 3) := dk_182 0 111 (dk_at dksJ19_outOfBoundsMsg_1 6 rfl rfl)
theorem dJ19_outOfBoundsMsg_31 : decode cJ19_outOfBoundsMsg 31 = .ok (.areturn, 1) := dk_176 (dk_at dksJ19_outOfBoundsMsg_1 9 rfl rfl)
abbrev cJ19_node : ByteArray := prog_54_method_31_code
def yJ19_node : MethodName := ⟨RJ19, "node", "(I)Ljava/util/LinkedList$Node;"⟩
def dkwJ19_node_2 : List UInt8 := [29, 27, 164, 0, 14, 44, 180, 0, 30, 77, 132, 3, 255, 167, 255, 243, 44, 176]
abbrev dktJ19_node_2 : List UInt8 := dkwJ19_node_2 ++ []
def dkwJ19_node_1 : List UInt8 := [180, 0, 36, 77, 132, 3, 1, 167, 255, 243, 44, 176, 42, 180, 0, 27, 77, 42, 180, 0, 7, 4, 100, 62]
abbrev dktJ19_node_1 : List UInt8 := dkwJ19_node_1 ++ dktJ19_node_2
def dkwJ19_node_0 : List UInt8 := [27, 42, 180, 0, 7, 4, 122, 162, 0, 28, 42, 180, 0, 18, 77, 3, 62, 29, 27, 162, 0, 14, 44]
abbrev dktJ19_node_0 : List UInt8 := dkwJ19_node_0 ++ dktJ19_node_1
theorem dksJ19_node_0 : cJ19_node.data.toList.drop 0 = dktJ19_node_0 := by decide +kernel
theorem dksJ19_node_1 : cJ19_node.data.toList.drop 23 = dktJ19_node_1 := dk_seg dksJ19_node_0 23 rfl rfl
theorem dksJ19_node_2 : cJ19_node.data.toList.drop 47 = dktJ19_node_2 := dk_seg dksJ19_node_1 24 rfl rfl
theorem dJ19_node_0 : decode cJ19_node 0 = .ok (.iload_n 1, 1) := dk_27 (dk_at dksJ19_node_0 0 rfl rfl)
theorem dJ19_node_1 : decode cJ19_node 1 = .ok (.aload_n 0, 1) := dk_42 (dk_at dksJ19_node_0 1 rfl rfl)
theorem dJ19_node_2 : decode cJ19_node 2 = .ok (.getfield 7, 3) := dk_180 0 7 (dk_at dksJ19_node_0 2 rfl rfl)
theorem dJ19_node_5 : decode cJ19_node 5 = .ok (.iconst 1, 1) := dk_4 (dk_at dksJ19_node_0 5 rfl rfl)
theorem dJ19_node_6 : decode cJ19_node 6 = .ok (.ishr, 1) := dk_122 (dk_at dksJ19_node_0 6 rfl rfl)
theorem dJ19_node_7 : decode cJ19_node 7 = .ok (.if_icmp .ge 28, 3) := dk_162 0 28 (dk_at dksJ19_node_0 7 rfl rfl)
theorem dJ19_node_10 : decode cJ19_node 10 = .ok (.aload_n 0, 1) := dk_42 (dk_at dksJ19_node_0 10 rfl rfl)
theorem dJ19_node_11 : decode cJ19_node 11 = .ok (.getfield 18, 3) := dk_180 0 18 (dk_at dksJ19_node_0 11 rfl rfl)
theorem dJ19_node_14 : decode cJ19_node 14 = .ok (.astore_n 2, 1) := dk_77 (dk_at dksJ19_node_0 14 rfl rfl)
theorem dJ19_node_15 : decode cJ19_node 15 = .ok (.iconst 0, 1) := dk_3 (dk_at dksJ19_node_0 15 rfl rfl)
theorem dJ19_node_16 : decode cJ19_node 16 = .ok (.istore_n 3, 1) := dk_62 (dk_at dksJ19_node_0 16 rfl rfl)
theorem dJ19_node_17 : decode cJ19_node 17 = .ok (.iload_n 3, 1) := dk_29 (dk_at dksJ19_node_0 17 rfl rfl)
theorem dJ19_node_18 : decode cJ19_node 18 = .ok (.iload_n 1, 1) := dk_27 (dk_at dksJ19_node_0 18 rfl rfl)
theorem dJ19_node_19 : decode cJ19_node 19 = .ok (.if_icmp .ge 14, 3) := dk_162 0 14 (dk_at dksJ19_node_0 19 rfl rfl)
theorem dJ19_node_22 : decode cJ19_node 22 = .ok (.aload_n 2, 1) := dk_44 (dk_at dksJ19_node_0 22 rfl rfl)
theorem dJ19_node_23 : decode cJ19_node 23 = .ok (.getfield 36, 3) := dk_180 0 36 (dk_at dksJ19_node_1 0 rfl rfl)
theorem dJ19_node_26 : decode cJ19_node 26 = .ok (.astore_n 2, 1) := dk_77 (dk_at dksJ19_node_1 3 rfl rfl)
theorem dJ19_node_27 : decode cJ19_node 27 = .ok (.iinc 3 1, 3) := dk_132 3 1 (dk_at dksJ19_node_1 4 rfl rfl)
theorem dJ19_node_30 : decode cJ19_node 30 = .ok (.goto (-13), 3) := dk_167 255 243 (dk_at dksJ19_node_1 7 rfl rfl)
theorem dJ19_node_33 : decode cJ19_node 33 = .ok (.aload_n 2, 1) := dk_44 (dk_at dksJ19_node_1 10 rfl rfl)
theorem dJ19_node_34 : decode cJ19_node 34 = .ok (.areturn, 1) := dk_176 (dk_at dksJ19_node_1 11 rfl rfl)
theorem dJ19_node_35 : decode cJ19_node 35 = .ok (.aload_n 0, 1) := dk_42 (dk_at dksJ19_node_1 12 rfl rfl)
theorem dJ19_node_36 : decode cJ19_node 36 = .ok (.getfield 27, 3) := dk_180 0 27 (dk_at dksJ19_node_1 13 rfl rfl)
theorem dJ19_node_39 : decode cJ19_node 39 = .ok (.astore_n 2, 1) := dk_77 (dk_at dksJ19_node_1 16 rfl rfl)
theorem dJ19_node_40 : decode cJ19_node 40 = .ok (.aload_n 0, 1) := dk_42 (dk_at dksJ19_node_1 17 rfl rfl)
theorem dJ19_node_41 : decode cJ19_node 41 = .ok (.getfield 7, 3) := dk_180 0 7 (dk_at dksJ19_node_1 18 rfl rfl)
theorem dJ19_node_44 : decode cJ19_node 44 = .ok (.iconst 1, 1) := dk_4 (dk_at dksJ19_node_1 21 rfl rfl)
theorem dJ19_node_45 : decode cJ19_node 45 = .ok (.isub, 1) := dk_100 (dk_at dksJ19_node_1 22 rfl rfl)
theorem dJ19_node_46 : decode cJ19_node 46 = .ok (.istore_n 3, 1) := dk_62 (dk_at dksJ19_node_1 23 rfl rfl)
theorem dJ19_node_47 : decode cJ19_node 47 = .ok (.iload_n 3, 1) := dk_29 (dk_at dksJ19_node_2 0 rfl rfl)
theorem dJ19_node_48 : decode cJ19_node 48 = .ok (.iload_n 1, 1) := dk_27 (dk_at dksJ19_node_2 1 rfl rfl)
theorem dJ19_node_49 : decode cJ19_node 49 = .ok (.if_icmp .le 14, 3) := dk_164 0 14 (dk_at dksJ19_node_2 2 rfl rfl)
theorem dJ19_node_52 : decode cJ19_node 52 = .ok (.aload_n 2, 1) := dk_44 (dk_at dksJ19_node_2 5 rfl rfl)
theorem dJ19_node_53 : decode cJ19_node 53 = .ok (.getfield 30, 3) := dk_180 0 30 (dk_at dksJ19_node_2 6 rfl rfl)
theorem dJ19_node_56 : decode cJ19_node 56 = .ok (.astore_n 2, 1) := dk_77 (dk_at dksJ19_node_2 9 rfl rfl)
theorem dJ19_node_57 : decode cJ19_node 57 = .ok (.iinc 3 (-1), 3) := dk_132 3 255 (dk_at dksJ19_node_2 10 rfl rfl)
theorem dJ19_node_60 : decode cJ19_node 60 = .ok (.goto (-13), 3) := dk_167 255 243 (dk_at dksJ19_node_2 13 rfl rfl)
theorem dJ19_node_63 : decode cJ19_node 63 = .ok (.aload_n 2, 1) := dk_44 (dk_at dksJ19_node_2 16 rfl rfl)
theorem dJ19_node_64 : decode cJ19_node 64 = .ok (.areturn, 1) := dk_176 (dk_at dksJ19_node_2 17 rfl rfl)
abbrev cJ19_add : ByteArray := prog_54_method_17_code
def yJ19_add : MethodName := ⟨RJ19, "add", "(Ljava/lang/Object;)Z"⟩
def dkwJ19_add_0 : List UInt8 := [42, 43, 182, 0, 57, 4, 172]
abbrev dktJ19_add_0 : List UInt8 := dkwJ19_add_0 ++ []
theorem dksJ19_add_0 : cJ19_add.data.toList.drop 0 = dktJ19_add_0 := by decide +kernel
theorem dJ19_add_0 : decode cJ19_add 0 = .ok (.aload_n 0, 1) := dk_42 (dk_at dksJ19_add_0 0 rfl rfl)
theorem dJ19_add_1 : decode cJ19_add 1 = .ok (.aload_n 1, 1) := dk_43 (dk_at dksJ19_add_0 1 rfl rfl)
theorem dJ19_add_2 : decode cJ19_add 2 = .ok (.invokevirtual 57, 3) := dk_182 0 57 (dk_at dksJ19_add_0 2 rfl rfl)
theorem dJ19_add_5 : decode cJ19_add 5 = .ok (.iconst 1, 1) := dk_4 (dk_at dksJ19_add_0 5 rfl rfl)
theorem dJ19_add_6 : decode cJ19_add 6 = .ok (.ireturn, 1) := dk_172 (dk_at dksJ19_add_0 6 rfl rfl)
abbrev cJ19_linkLast : ByteArray := prog_54_method_4_code
def yJ19_linkLast : MethodName := ⟨RJ19, "linkLast", "(Ljava/lang/Object;)V"⟩
def dkwJ19_linkLast_2 : List UInt8 := [181, 0, 7, 42, 89, 180, 0, 33, 4, 96, 181, 0, 33, 177]
abbrev dktJ19_linkLast_2 : List UInt8 := dkwJ19_linkLast_2 ++ []
def dkwJ19_linkLast_1 : List UInt8 := [199, 0, 11, 42, 45, 181, 0, 18, 167, 0, 8, 44, 45, 181, 0, 36, 42, 89, 180, 0, 7, 4, 96]
abbrev dktJ19_linkLast_1 : List UInt8 := dkwJ19_linkLast_1 ++ dktJ19_linkLast_2
def dkwJ19_linkLast_0 : List UInt8 := [42, 180, 0, 27, 77, 187, 0, 22, 89, 44, 43, 1, 183, 0, 24, 78, 42, 45, 181, 0, 27, 44]
abbrev dktJ19_linkLast_0 : List UInt8 := dkwJ19_linkLast_0 ++ dktJ19_linkLast_1
theorem dksJ19_linkLast_0 : cJ19_linkLast.data.toList.drop 0 = dktJ19_linkLast_0 := by decide +kernel
theorem dksJ19_linkLast_1 : cJ19_linkLast.data.toList.drop 22 = dktJ19_linkLast_1 := dk_seg dksJ19_linkLast_0 22 rfl rfl
theorem dksJ19_linkLast_2 : cJ19_linkLast.data.toList.drop 45 = dktJ19_linkLast_2 := dk_seg dksJ19_linkLast_1 23 rfl rfl
theorem dJ19_linkLast_0 : decode cJ19_linkLast 0 = .ok (.aload_n 0, 1) := dk_42 (dk_at dksJ19_linkLast_0 0 rfl rfl)
theorem dJ19_linkLast_1 : decode cJ19_linkLast 1 = .ok (.getfield 27, 3) := dk_180 0 27 (dk_at dksJ19_linkLast_0 1 rfl rfl)
theorem dJ19_linkLast_4 : decode cJ19_linkLast 4 = .ok (.astore_n 2, 1) := dk_77 (dk_at dksJ19_linkLast_0 4 rfl rfl)
theorem dJ19_linkLast_5 : decode cJ19_linkLast 5 = .ok (.new 22, 3) := dk_187 0 22 (dk_at dksJ19_linkLast_0 5 rfl rfl)
theorem dJ19_linkLast_8 : decode cJ19_linkLast 8 = .ok (.dup, 1) := dk_89 (dk_at dksJ19_linkLast_0 8 rfl rfl)
theorem dJ19_linkLast_9 : decode cJ19_linkLast 9 = .ok (.aload_n 2, 1) := dk_44 (dk_at dksJ19_linkLast_0 9 rfl rfl)
theorem dJ19_linkLast_10 : decode cJ19_linkLast 10 = .ok (.aload_n 1, 1) := dk_43 (dk_at dksJ19_linkLast_0 10 rfl rfl)
theorem dJ19_linkLast_11 : decode cJ19_linkLast 11 = .ok (.aconst_null, 1) := dk_1 (dk_at dksJ19_linkLast_0 11 rfl rfl)
theorem dJ19_linkLast_12 : decode cJ19_linkLast 12 = .ok (.invokespecial 24, 3) := dk_183 0 24 (dk_at dksJ19_linkLast_0 12 rfl rfl)
theorem dJ19_linkLast_15 : decode cJ19_linkLast 15 = .ok (.astore_n 3, 1) := dk_78 (dk_at dksJ19_linkLast_0 15 rfl rfl)
theorem dJ19_linkLast_16 : decode cJ19_linkLast 16 = .ok (.aload_n 0, 1) := dk_42 (dk_at dksJ19_linkLast_0 16 rfl rfl)
theorem dJ19_linkLast_17 : decode cJ19_linkLast 17 = .ok (.aload_n 3, 1) := dk_45 (dk_at dksJ19_linkLast_0 17 rfl rfl)
theorem dJ19_linkLast_18 : decode cJ19_linkLast 18 = .ok (.putfield 27, 3) := dk_181 0 27 (dk_at dksJ19_linkLast_0 18 rfl rfl)
theorem dJ19_linkLast_21 : decode cJ19_linkLast 21 = .ok (.aload_n 2, 1) := dk_44 (dk_at dksJ19_linkLast_0 21 rfl rfl)
theorem dJ19_linkLast_22 : decode cJ19_linkLast 22 = .ok (.ifnonnull 11, 3) := dk_199 0 11 (dk_at dksJ19_linkLast_1 0 rfl rfl)
theorem dJ19_linkLast_25 : decode cJ19_linkLast 25 = .ok (.aload_n 0, 1) := dk_42 (dk_at dksJ19_linkLast_1 3 rfl rfl)
theorem dJ19_linkLast_26 : decode cJ19_linkLast 26 = .ok (.aload_n 3, 1) := dk_45 (dk_at dksJ19_linkLast_1 4 rfl rfl)
theorem dJ19_linkLast_27 : decode cJ19_linkLast 27 = .ok (.putfield 18, 3) := dk_181 0 18 (dk_at dksJ19_linkLast_1 5 rfl rfl)
theorem dJ19_linkLast_30 : decode cJ19_linkLast 30 = .ok (.goto 8, 3) := dk_167 0 8 (dk_at dksJ19_linkLast_1 8 rfl rfl)
theorem dJ19_linkLast_33 : decode cJ19_linkLast 33 = .ok (.aload_n 2, 1) := dk_44 (dk_at dksJ19_linkLast_1 11 rfl rfl)
theorem dJ19_linkLast_34 : decode cJ19_linkLast 34 = .ok (.aload_n 3, 1) := dk_45 (dk_at dksJ19_linkLast_1 12 rfl rfl)
theorem dJ19_linkLast_35 : decode cJ19_linkLast 35 = .ok (.putfield 36, 3) := dk_181 0 36 (dk_at dksJ19_linkLast_1 13 rfl rfl)
theorem dJ19_linkLast_38 : decode cJ19_linkLast 38 = .ok (.aload_n 0, 1) := dk_42 (dk_at dksJ19_linkLast_1 16 rfl rfl)
theorem dJ19_linkLast_39 : decode cJ19_linkLast 39 = .ok (.dup, 1) := dk_89 (dk_at dksJ19_linkLast_1 17 rfl rfl)
theorem dJ19_linkLast_40 : decode cJ19_linkLast 40 = .ok (.getfield 7, 3) := dk_180 0 7 (dk_at dksJ19_linkLast_1 18 rfl rfl)
theorem dJ19_linkLast_43 : decode cJ19_linkLast 43 = .ok (.iconst 1, 1) := dk_4 (dk_at dksJ19_linkLast_1 21 rfl rfl)
theorem dJ19_linkLast_44 : decode cJ19_linkLast 44 = .ok (.iadd, 1) := dk_96 (dk_at dksJ19_linkLast_1 22 rfl rfl)
theorem dJ19_linkLast_45 : decode cJ19_linkLast 45 = .ok (.putfield 7, 3) := dk_181 0 7 (dk_at dksJ19_linkLast_2 0 rfl rfl)
theorem dJ19_linkLast_48 : decode cJ19_linkLast 48 = .ok (.aload_n 0, 1) := dk_42 (dk_at dksJ19_linkLast_2 3 rfl rfl)
theorem dJ19_linkLast_49 : decode cJ19_linkLast 49 = .ok (.dup, 1) := dk_89 (dk_at dksJ19_linkLast_2 4 rfl rfl)
theorem dJ19_linkLast_50 : decode cJ19_linkLast 50 = .ok (.getfield 33, 3) := dk_180 0 33 (dk_at dksJ19_linkLast_2 5 rfl rfl)
theorem dJ19_linkLast_53 : decode cJ19_linkLast 53 = .ok (.iconst 1, 1) := dk_4 (dk_at dksJ19_linkLast_2 8 rfl rfl)
theorem dJ19_linkLast_54 : decode cJ19_linkLast 54 = .ok (.iadd, 1) := dk_96 (dk_at dksJ19_linkLast_2 9 rfl rfl)
theorem dJ19_linkLast_55 : decode cJ19_linkLast 55 = .ok (.putfield 33, 3) := dk_181 0 33 (dk_at dksJ19_linkLast_2 10 rfl rfl)
theorem dJ19_linkLast_58 : decode cJ19_linkLast 58 = .ok (.return_, 1) := dk_177 (dk_at dksJ19_linkLast_2 13 rfl rfl)
abbrev cJ19_clear : ByteArray := prog_54_method_21_code
def yJ19_clear : MethodName := ⟨RJ19, "clear", "()V"⟩
def dkwJ19_clear_2 : List UInt8 := [181, 0, 7, 42, 89, 180, 0, 33, 4, 96, 181, 0, 33, 177]
abbrev dktJ19_clear_2 : List UInt8 := dkwJ19_clear_2 ++ []
def dkwJ19_clear_1 : List UInt8 := [43, 1, 181, 0, 30, 44, 76, 167, 255, 230, 42, 42, 1, 90, 181, 0, 27, 181, 0, 18, 42, 3]
abbrev dktJ19_clear_1 : List UInt8 := dkwJ19_clear_1 ++ dktJ19_clear_2
def dkwJ19_clear_0 : List UInt8 := [42, 180, 0, 18, 76, 43, 198, 0, 28, 43, 180, 0, 36, 77, 43, 1, 181, 0, 39, 43, 1, 181, 0, 36]
abbrev dktJ19_clear_0 : List UInt8 := dkwJ19_clear_0 ++ dktJ19_clear_1
theorem dksJ19_clear_0 : cJ19_clear.data.toList.drop 0 = dktJ19_clear_0 := by decide +kernel
theorem dksJ19_clear_1 : cJ19_clear.data.toList.drop 24 = dktJ19_clear_1 := dk_seg dksJ19_clear_0 24 rfl rfl
theorem dksJ19_clear_2 : cJ19_clear.data.toList.drop 46 = dktJ19_clear_2 := dk_seg dksJ19_clear_1 22 rfl rfl
theorem dJ19_clear_0 : decode cJ19_clear 0 = .ok (.aload_n 0, 1) := dk_42 (dk_at dksJ19_clear_0 0 rfl rfl)
theorem dJ19_clear_1 : decode cJ19_clear 1 = .ok (.getfield 18, 3) := dk_180 0 18 (dk_at dksJ19_clear_0 1 rfl rfl)
theorem dJ19_clear_4 : decode cJ19_clear 4 = .ok (.astore_n 1, 1) := dk_76 (dk_at dksJ19_clear_0 4 rfl rfl)
theorem dJ19_clear_5 : decode cJ19_clear 5 = .ok (.aload_n 1, 1) := dk_43 (dk_at dksJ19_clear_0 5 rfl rfl)
theorem dJ19_clear_6 : decode cJ19_clear 6 = .ok (.ifnull 28, 3) := dk_198 0 28 (dk_at dksJ19_clear_0 6 rfl rfl)
theorem dJ19_clear_9 : decode cJ19_clear 9 = .ok (.aload_n 1, 1) := dk_43 (dk_at dksJ19_clear_0 9 rfl rfl)
theorem dJ19_clear_10 : decode cJ19_clear 10 = .ok (.getfield 36, 3) := dk_180 0 36 (dk_at dksJ19_clear_0 10 rfl rfl)
theorem dJ19_clear_13 : decode cJ19_clear 13 = .ok (.astore_n 2, 1) := dk_77 (dk_at dksJ19_clear_0 13 rfl rfl)
theorem dJ19_clear_14 : decode cJ19_clear 14 = .ok (.aload_n 1, 1) := dk_43 (dk_at dksJ19_clear_0 14 rfl rfl)
theorem dJ19_clear_15 : decode cJ19_clear 15 = .ok (.aconst_null, 1) := dk_1 (dk_at dksJ19_clear_0 15 rfl rfl)
theorem dJ19_clear_16 : decode cJ19_clear 16 = .ok (.putfield 39, 3) := dk_181 0 39 (dk_at dksJ19_clear_0 16 rfl rfl)
theorem dJ19_clear_19 : decode cJ19_clear 19 = .ok (.aload_n 1, 1) := dk_43 (dk_at dksJ19_clear_0 19 rfl rfl)
theorem dJ19_clear_20 : decode cJ19_clear 20 = .ok (.aconst_null, 1) := dk_1 (dk_at dksJ19_clear_0 20 rfl rfl)
theorem dJ19_clear_21 : decode cJ19_clear 21 = .ok (.putfield 36, 3) := dk_181 0 36 (dk_at dksJ19_clear_0 21 rfl rfl)
theorem dJ19_clear_24 : decode cJ19_clear 24 = .ok (.aload_n 1, 1) := dk_43 (dk_at dksJ19_clear_1 0 rfl rfl)
theorem dJ19_clear_25 : decode cJ19_clear 25 = .ok (.aconst_null, 1) := dk_1 (dk_at dksJ19_clear_1 1 rfl rfl)
theorem dJ19_clear_26 : decode cJ19_clear 26 = .ok (.putfield 30, 3) := dk_181 0 30 (dk_at dksJ19_clear_1 2 rfl rfl)
theorem dJ19_clear_29 : decode cJ19_clear 29 = .ok (.aload_n 2, 1) := dk_44 (dk_at dksJ19_clear_1 5 rfl rfl)
theorem dJ19_clear_30 : decode cJ19_clear 30 = .ok (.astore_n 1, 1) := dk_76 (dk_at dksJ19_clear_1 6 rfl rfl)
theorem dJ19_clear_31 : decode cJ19_clear 31 = .ok (.goto (-26), 3) := dk_167 255 230 (dk_at dksJ19_clear_1 7 rfl rfl)
theorem dJ19_clear_34 : decode cJ19_clear 34 = .ok (.aload_n 0, 1) := dk_42 (dk_at dksJ19_clear_1 10 rfl rfl)
theorem dJ19_clear_35 : decode cJ19_clear 35 = .ok (.aload_n 0, 1) := dk_42 (dk_at dksJ19_clear_1 11 rfl rfl)
theorem dJ19_clear_36 : decode cJ19_clear 36 = .ok (.aconst_null, 1) := dk_1 (dk_at dksJ19_clear_1 12 rfl rfl)
theorem dJ19_clear_37 : decode cJ19_clear 37 = .ok (.dup_x1, 1) := dk_90 (dk_at dksJ19_clear_1 13 rfl rfl)
theorem dJ19_clear_38 : decode cJ19_clear 38 = .ok (.putfield 27, 3) := dk_181 0 27 (dk_at dksJ19_clear_1 14 rfl rfl)
theorem dJ19_clear_41 : decode cJ19_clear 41 = .ok (.putfield 18, 3) := dk_181 0 18 (dk_at dksJ19_clear_1 17 rfl rfl)
theorem dJ19_clear_44 : decode cJ19_clear 44 = .ok (.aload_n 0, 1) := dk_42 (dk_at dksJ19_clear_1 20 rfl rfl)
theorem dJ19_clear_45 : decode cJ19_clear 45 = .ok (.iconst 0, 1) := dk_3 (dk_at dksJ19_clear_1 21 rfl rfl)
theorem dJ19_clear_46 : decode cJ19_clear 46 = .ok (.putfield 7, 3) := dk_181 0 7 (dk_at dksJ19_clear_2 0 rfl rfl)
theorem dJ19_clear_49 : decode cJ19_clear 49 = .ok (.aload_n 0, 1) := dk_42 (dk_at dksJ19_clear_2 3 rfl rfl)
theorem dJ19_clear_50 : decode cJ19_clear 50 = .ok (.dup, 1) := dk_89 (dk_at dksJ19_clear_2 4 rfl rfl)
theorem dJ19_clear_51 : decode cJ19_clear 51 = .ok (.getfield 33, 3) := dk_180 0 33 (dk_at dksJ19_clear_2 5 rfl rfl)
theorem dJ19_clear_54 : decode cJ19_clear 54 = .ok (.iconst 1, 1) := dk_4 (dk_at dksJ19_clear_2 8 rfl rfl)
theorem dJ19_clear_55 : decode cJ19_clear 55 = .ok (.iadd, 1) := dk_96 (dk_at dksJ19_clear_2 9 rfl rfl)
theorem dJ19_clear_56 : decode cJ19_clear 56 = .ok (.putfield 33, 3) := dk_181 0 33 (dk_at dksJ19_clear_2 10 rfl rfl)
theorem dJ19_clear_59 : decode cJ19_clear 59 = .ok (.return_, 1) := dk_177 (dk_at dksJ19_clear_2 13 rfl rfl)
abbrev cJ19_addLast : ByteArray := prog_54_method_14_code
def yJ19_addLast : MethodName := ⟨RJ19, "addLast", "(Ljava/lang/Object;)V"⟩
def dkwJ19_addLast_0 : List UInt8 := [42, 43, 182, 0, 57, 177]
abbrev dktJ19_addLast_0 : List UInt8 := dkwJ19_addLast_0 ++ []
theorem dksJ19_addLast_0 : cJ19_addLast.data.toList.drop 0 = dktJ19_addLast_0 := by decide +kernel
theorem dJ19_addLast_0 : decode cJ19_addLast 0 = .ok (.aload_n 0, 1) := dk_42 (dk_at dksJ19_addLast_0 0 rfl rfl)
theorem dJ19_addLast_1 : decode cJ19_addLast 1 = .ok (.aload_n 1, 1) := dk_43 (dk_at dksJ19_addLast_0 1 rfl rfl)
theorem dJ19_addLast_2 : decode cJ19_addLast 2 = .ok (.invokevirtual 57, 3) := dk_182 0 57 (dk_at dksJ19_addLast_0 2 rfl rfl)
theorem dJ19_addLast_5 : decode cJ19_addLast 5 = .ok (.return_, 1) := dk_177 (dk_at dksJ19_addLast_0 5 rfl rfl)
abbrev cJ19_removeFirst : ByteArray := prog_54_method_11_code
def yJ19_removeFirst : MethodName := ⟨RJ19, "removeFirst", "()Ljava/lang/Object;"⟩
def dkwJ19_removeFirst_0 : List UInt8 := [42, 180, 0, 18, 76, 43, 199, 0, 11, 187, 0, 43, 89, 183, 0, 45, 191, 42, 43, 182, 0, 46, 176]
abbrev dktJ19_removeFirst_0 : List UInt8 := dkwJ19_removeFirst_0 ++ []
theorem dksJ19_removeFirst_0 : cJ19_removeFirst.data.toList.drop 0 = dktJ19_removeFirst_0 := by decide +kernel
theorem dJ19_removeFirst_0 : decode cJ19_removeFirst 0 = .ok (.aload_n 0, 1) := dk_42 (dk_at dksJ19_removeFirst_0 0 rfl rfl)
theorem dJ19_removeFirst_1 : decode cJ19_removeFirst 1 = .ok (.getfield 18, 3) := dk_180 0 18 (dk_at dksJ19_removeFirst_0 1 rfl rfl)
theorem dJ19_removeFirst_4 : decode cJ19_removeFirst 4 = .ok (.astore_n 1, 1) := dk_76 (dk_at dksJ19_removeFirst_0 4 rfl rfl)
theorem dJ19_removeFirst_5 : decode cJ19_removeFirst 5 = .ok (.aload_n 1, 1) := dk_43 (dk_at dksJ19_removeFirst_0 5 rfl rfl)
theorem dJ19_removeFirst_6 : decode cJ19_removeFirst 6 = .ok (.ifnonnull 11, 3) := dk_199 0 11 (dk_at dksJ19_removeFirst_0 6 rfl rfl)
theorem dJ19_removeFirst_9 : decode cJ19_removeFirst 9 = .ok (.new 43, 3) := dk_187 0 43 (dk_at dksJ19_removeFirst_0 9 rfl rfl)
theorem dJ19_removeFirst_12 : decode cJ19_removeFirst 12 = .ok (.dup, 1) := dk_89 (dk_at dksJ19_removeFirst_0 12 rfl rfl)
theorem dJ19_removeFirst_13 : decode cJ19_removeFirst 13 = .ok (.invokespecial 45, 3) := dk_183 0 45 (dk_at dksJ19_removeFirst_0 13 rfl rfl)
theorem dJ19_removeFirst_16 : decode cJ19_removeFirst 16 = .ok (.athrow, 1) := dk_191 (dk_at dksJ19_removeFirst_0 16 rfl rfl)
theorem dJ19_removeFirst_17 : decode cJ19_removeFirst 17 = .ok (.aload_n 0, 1) := dk_42 (dk_at dksJ19_removeFirst_0 17 rfl rfl)
theorem dJ19_removeFirst_18 : decode cJ19_removeFirst 18 = .ok (.aload_n 1, 1) := dk_43 (dk_at dksJ19_removeFirst_0 18 rfl rfl)
theorem dJ19_removeFirst_19 : decode cJ19_removeFirst 19 = .ok (.invokevirtual 46, 3) := dk_182 0 46 (dk_at dksJ19_removeFirst_0 19 rfl rfl)
theorem dJ19_removeFirst_22 : decode cJ19_removeFirst 22 = .ok (.areturn, 1) := dk_176 (dk_at dksJ19_removeFirst_0 22 rfl rfl)
abbrev cJ19_unlinkFirst : ByteArray := prog_54_method_6_code
def yJ19_unlinkFirst : MethodName := ⟨RJ19, "unlinkFirst", "(Ljava/util/LinkedList$Node;)Ljava/lang/Object;"⟩
def dkwJ19_unlinkFirst_2 : List UInt8 := [180, 0, 7, 4, 100, 181, 0, 7, 42, 89, 180, 0, 33, 4, 96, 181, 0, 33, 44, 176]
abbrev dktJ19_unlinkFirst_2 : List UInt8 := dkwJ19_unlinkFirst_2 ++ []
def dkwJ19_unlinkFirst_1 : List UInt8 := [181, 0, 18, 45, 199, 0, 11, 42, 1, 181, 0, 27, 167, 0, 8, 45, 1, 181, 0, 30, 42, 89]
abbrev dktJ19_unlinkFirst_1 : List UInt8 := dkwJ19_unlinkFirst_1 ++ dktJ19_unlinkFirst_2
def dkwJ19_unlinkFirst_0 : List UInt8 := [43, 180, 0, 39, 77, 43, 180, 0, 36, 78, 43, 1, 181, 0, 39, 43, 1, 181, 0, 36, 42, 45]
abbrev dktJ19_unlinkFirst_0 : List UInt8 := dkwJ19_unlinkFirst_0 ++ dktJ19_unlinkFirst_1
theorem dksJ19_unlinkFirst_0 : cJ19_unlinkFirst.data.toList.drop 0 = dktJ19_unlinkFirst_0 := by decide +kernel
theorem dksJ19_unlinkFirst_1 : cJ19_unlinkFirst.data.toList.drop 22 = dktJ19_unlinkFirst_1 := dk_seg dksJ19_unlinkFirst_0 22 rfl rfl
theorem dksJ19_unlinkFirst_2 : cJ19_unlinkFirst.data.toList.drop 44 = dktJ19_unlinkFirst_2 := dk_seg dksJ19_unlinkFirst_1 22 rfl rfl
theorem dJ19_unlinkFirst_0 : decode cJ19_unlinkFirst 0 = .ok (.aload_n 1, 1) := dk_43 (dk_at dksJ19_unlinkFirst_0 0 rfl rfl)
theorem dJ19_unlinkFirst_1 : decode cJ19_unlinkFirst 1 = .ok (.getfield 39, 3) := dk_180 0 39 (dk_at dksJ19_unlinkFirst_0 1 rfl rfl)
theorem dJ19_unlinkFirst_4 : decode cJ19_unlinkFirst 4 = .ok (.astore_n 2, 1) := dk_77 (dk_at dksJ19_unlinkFirst_0 4 rfl rfl)
theorem dJ19_unlinkFirst_5 : decode cJ19_unlinkFirst 5 = .ok (.aload_n 1, 1) := dk_43 (dk_at dksJ19_unlinkFirst_0 5 rfl rfl)
theorem dJ19_unlinkFirst_6 : decode cJ19_unlinkFirst 6 = .ok (.getfield 36, 3) := dk_180 0 36 (dk_at dksJ19_unlinkFirst_0 6 rfl rfl)
theorem dJ19_unlinkFirst_9 : decode cJ19_unlinkFirst 9 = .ok (.astore_n 3, 1) := dk_78 (dk_at dksJ19_unlinkFirst_0 9 rfl rfl)
theorem dJ19_unlinkFirst_10 : decode cJ19_unlinkFirst 10 = .ok (.aload_n 1, 1) := dk_43 (dk_at dksJ19_unlinkFirst_0 10 rfl rfl)
theorem dJ19_unlinkFirst_11 : decode cJ19_unlinkFirst 11 = .ok (.aconst_null, 1) := dk_1 (dk_at dksJ19_unlinkFirst_0 11 rfl rfl)
theorem dJ19_unlinkFirst_12 : decode cJ19_unlinkFirst 12 = .ok (.putfield 39, 3) := dk_181 0 39 (dk_at dksJ19_unlinkFirst_0 12 rfl rfl)
theorem dJ19_unlinkFirst_15 : decode cJ19_unlinkFirst 15 = .ok (.aload_n 1, 1) := dk_43 (dk_at dksJ19_unlinkFirst_0 15 rfl rfl)
theorem dJ19_unlinkFirst_16 : decode cJ19_unlinkFirst 16 = .ok (.aconst_null, 1) := dk_1 (dk_at dksJ19_unlinkFirst_0 16 rfl rfl)
theorem dJ19_unlinkFirst_17 : decode cJ19_unlinkFirst 17 = .ok (.putfield 36, 3) := dk_181 0 36 (dk_at dksJ19_unlinkFirst_0 17 rfl rfl)
theorem dJ19_unlinkFirst_20 : decode cJ19_unlinkFirst 20 = .ok (.aload_n 0, 1) := dk_42 (dk_at dksJ19_unlinkFirst_0 20 rfl rfl)
theorem dJ19_unlinkFirst_21 : decode cJ19_unlinkFirst 21 = .ok (.aload_n 3, 1) := dk_45 (dk_at dksJ19_unlinkFirst_0 21 rfl rfl)
theorem dJ19_unlinkFirst_22 : decode cJ19_unlinkFirst 22 = .ok (.putfield 18, 3) := dk_181 0 18 (dk_at dksJ19_unlinkFirst_1 0 rfl rfl)
theorem dJ19_unlinkFirst_25 : decode cJ19_unlinkFirst 25 = .ok (.aload_n 3, 1) := dk_45 (dk_at dksJ19_unlinkFirst_1 3 rfl rfl)
theorem dJ19_unlinkFirst_26 : decode cJ19_unlinkFirst 26 = .ok (.ifnonnull 11, 3) := dk_199 0 11 (dk_at dksJ19_unlinkFirst_1 4 rfl rfl)
theorem dJ19_unlinkFirst_29 : decode cJ19_unlinkFirst 29 = .ok (.aload_n 0, 1) := dk_42 (dk_at dksJ19_unlinkFirst_1 7 rfl rfl)
theorem dJ19_unlinkFirst_30 : decode cJ19_unlinkFirst 30 = .ok (.aconst_null, 1) := dk_1 (dk_at dksJ19_unlinkFirst_1 8 rfl rfl)
theorem dJ19_unlinkFirst_31 : decode cJ19_unlinkFirst 31 = .ok (.putfield 27, 3) := dk_181 0 27 (dk_at dksJ19_unlinkFirst_1 9 rfl rfl)
theorem dJ19_unlinkFirst_34 : decode cJ19_unlinkFirst 34 = .ok (.goto 8, 3) := dk_167 0 8 (dk_at dksJ19_unlinkFirst_1 12 rfl rfl)
theorem dJ19_unlinkFirst_37 : decode cJ19_unlinkFirst 37 = .ok (.aload_n 3, 1) := dk_45 (dk_at dksJ19_unlinkFirst_1 15 rfl rfl)
theorem dJ19_unlinkFirst_38 : decode cJ19_unlinkFirst 38 = .ok (.aconst_null, 1) := dk_1 (dk_at dksJ19_unlinkFirst_1 16 rfl rfl)
theorem dJ19_unlinkFirst_39 : decode cJ19_unlinkFirst 39 = .ok (.putfield 30, 3) := dk_181 0 30 (dk_at dksJ19_unlinkFirst_1 17 rfl rfl)
theorem dJ19_unlinkFirst_42 : decode cJ19_unlinkFirst 42 = .ok (.aload_n 0, 1) := dk_42 (dk_at dksJ19_unlinkFirst_1 20 rfl rfl)
theorem dJ19_unlinkFirst_43 : decode cJ19_unlinkFirst 43 = .ok (.dup, 1) := dk_89 (dk_at dksJ19_unlinkFirst_1 21 rfl rfl)
theorem dJ19_unlinkFirst_44 : decode cJ19_unlinkFirst 44 = .ok (.getfield 7, 3) := dk_180 0 7 (dk_at dksJ19_unlinkFirst_2 0 rfl rfl)
theorem dJ19_unlinkFirst_47 : decode cJ19_unlinkFirst 47 = .ok (.iconst 1, 1) := dk_4 (dk_at dksJ19_unlinkFirst_2 3 rfl rfl)
theorem dJ19_unlinkFirst_48 : decode cJ19_unlinkFirst 48 = .ok (.isub, 1) := dk_100 (dk_at dksJ19_unlinkFirst_2 4 rfl rfl)
theorem dJ19_unlinkFirst_49 : decode cJ19_unlinkFirst 49 = .ok (.putfield 7, 3) := dk_181 0 7 (dk_at dksJ19_unlinkFirst_2 5 rfl rfl)
theorem dJ19_unlinkFirst_52 : decode cJ19_unlinkFirst 52 = .ok (.aload_n 0, 1) := dk_42 (dk_at dksJ19_unlinkFirst_2 8 rfl rfl)
theorem dJ19_unlinkFirst_53 : decode cJ19_unlinkFirst 53 = .ok (.dup, 1) := dk_89 (dk_at dksJ19_unlinkFirst_2 9 rfl rfl)
theorem dJ19_unlinkFirst_54 : decode cJ19_unlinkFirst 54 = .ok (.getfield 33, 3) := dk_180 0 33 (dk_at dksJ19_unlinkFirst_2 10 rfl rfl)
theorem dJ19_unlinkFirst_57 : decode cJ19_unlinkFirst 57 = .ok (.iconst 1, 1) := dk_4 (dk_at dksJ19_unlinkFirst_2 13 rfl rfl)
theorem dJ19_unlinkFirst_58 : decode cJ19_unlinkFirst 58 = .ok (.iadd, 1) := dk_96 (dk_at dksJ19_unlinkFirst_2 14 rfl rfl)
theorem dJ19_unlinkFirst_59 : decode cJ19_unlinkFirst 59 = .ok (.putfield 33, 3) := dk_181 0 33 (dk_at dksJ19_unlinkFirst_2 15 rfl rfl)
theorem dJ19_unlinkFirst_62 : decode cJ19_unlinkFirst 62 = .ok (.aload_n 2, 1) := dk_44 (dk_at dksJ19_unlinkFirst_2 18 rfl rfl)
theorem dJ19_unlinkFirst_63 : decode cJ19_unlinkFirst 63 = .ok (.areturn, 1) := dk_176 (dk_at dksJ19_unlinkFirst_2 19 rfl rfl)
theorem q155 : (Jvm.Cond.initialized "java/util/LinkedList") ∈ lw_all := lw_g (lw_at lw_m1 27 rfl) rfl
theorem q527 : (Jvm.Cond.fieldLink "java/util/LinkedList" (33 : Nat) "java/util/LinkedList" "modCount" "I") ∈ lw_all := lw_g (lw_at lw_m2 159 rfl) rfl
theorem q528 : (Jvm.Cond.sameField "java/util/LinkedList" "java/util/AbstractList" "modCount" "I") ∈ lw_all := lw_g (lw_at lw_m2 160 rfl) rfl
theorem q664 : (Jvm.Cond.instantiable "java/util/LinkedList" (4 : Nat)) ∈ lw_all := lw_g (lw_at lw_m3 56 rfl) rfl
theorem q666 : (Jvm.Cond.instanceMethod ({ cls := "java/util/LinkedList", name := "<init>", desc := "()V" } : Jvm.MethodName)) ∈ lw_all := lw_g (lw_at lw_m3 58 rfl) rfl
theorem q667 : (Jvm.Cond.code ({ cls := "java/util/LinkedList", name := "<init>", desc := "()V" } : Jvm.MethodName) prog_54_method_1_code (1 : Nat) (Option.none : Option Jvm.ClassFile.FieldType)) ∈ lw_all := lw_g (lw_at lw_m3 59 rfl) rfl
theorem q668 : (Jvm.Cond.methodLink "java/util/LinkedList" (1 : Nat) ({ cls := "java/util/AbstractSequentialList", name := "<init>", desc := "()V" } : Jvm.MethodName)) ∈ lw_all := lw_g (lw_at lw_m3 60 rfl) rfl
theorem q672 : (Jvm.Cond.fieldLink "java/util/LinkedList" (7 : Nat) "java/util/LinkedList" "size" "I") ∈ lw_all := lw_g (lw_at lw_m3 64 rfl) rfl
theorem q673 : (Jvm.Cond.fieldLink "java/util/LinkedList" (18 : Nat) "java/util/LinkedList" "first" "Ljava/util/LinkedList$Node;") ∈ lw_all := lw_g (lw_at lw_m3 65 rfl) rfl
theorem q674 : (Jvm.Cond.fieldLink "java/util/LinkedList" (27 : Nat) "java/util/LinkedList" "last" "Ljava/util/LinkedList$Node;") ∈ lw_all := lw_g (lw_at lw_m3 66 rfl) rfl
theorem q675 : (Jvm.Cond.lays "java/util/LinkedList" "java/util/LinkedList" "size" "I") ∈ lw_all := lw_g (lw_at lw_m3 67 rfl) rfl
theorem q676 : (Jvm.Cond.soleField "java/util/LinkedList" "size") ∈ lw_all := lw_g (lw_at lw_m3 68 rfl) rfl
theorem q677 : (Jvm.Cond.lays "java/util/LinkedList" "java/util/LinkedList" "first" "Ljava/util/LinkedList$Node;") ∈ lw_all := lw_g (lw_at lw_m3 69 rfl) rfl
theorem q678 : (Jvm.Cond.soleField "java/util/LinkedList" "first") ∈ lw_all := lw_g (lw_at lw_m3 70 rfl) rfl
theorem q679 : (Jvm.Cond.lays "java/util/LinkedList" "java/util/LinkedList" "last" "Ljava/util/LinkedList$Node;") ∈ lw_all := lw_g (lw_at lw_m3 71 rfl) rfl
theorem q680 : (Jvm.Cond.soleField "java/util/LinkedList" "last") ∈ lw_all := lw_g (lw_at lw_m3 72 rfl) rfl
theorem q681 : (Jvm.Cond.lays "java/util/LinkedList" "java/util/AbstractList" "modCount" "I") ∈ lw_all := lw_g (lw_at lw_m3 73 rfl) rfl
theorem q682 : (Jvm.Cond.superclass "java/util/LinkedList" "java/util/AbstractSequentialList") ∈ lw_all := lw_g (lw_at lw_m3 74 rfl) rfl
theorem q738 : (Jvm.Cond.castable "java/util/LinkedList" "java/util/List") ∈ lw_tbl := lw_at lw_m3 130 rfl
theorem q739 : (Jvm.Cond.selects "java/util/LinkedList" ({ cls := "java/util/List", name := "size", desc := "()I" } : Jvm.MethodName) ({ cls := "java/util/LinkedList", name := "size", desc := "()I" } : Jvm.MethodName)) ∈ lw_all := lw_g (lw_at lw_m3 131 rfl) rfl
theorem q740 : (Jvm.Cond.unhidden "java/util/LinkedList" "size" "()I") ∈ lw_tbl := lw_at lw_m3 132 rfl
theorem q741 : (Jvm.Cond.instanceMethod ({ cls := "java/util/LinkedList", name := "size", desc := "()I" } : Jvm.MethodName)) ∈ lw_all := lw_g (lw_at lw_m3 133 rfl) rfl
theorem q742 : (Jvm.Cond.publicMethod ({ cls := "java/util/LinkedList", name := "size", desc := "()I" } : Jvm.MethodName)) ∈ lw_tbl := lw_at lw_m3 134 rfl
theorem q743 : (Jvm.Cond.code ({ cls := "java/util/LinkedList", name := "size", desc := "()I" } : Jvm.MethodName) prog_54_method_16_code (1 : Nat) (Option.some Jvm.ClassFile.FieldType.int)) ∈ lw_all := lw_g (lw_at lw_m3 135 rfl) rfl
theorem q772 : (Jvm.Cond.selects "java/util/LinkedList" ({ cls := "java/util/List", name := "get", desc := "(I)Ljava/lang/Object;" } : Jvm.MethodName) ({ cls := "java/util/LinkedList", name := "get", desc := "(I)Ljava/lang/Object;" } : Jvm.MethodName)) ∈ lw_all := lw_g (lw_at lw_m3 164 rfl) rfl
theorem q773 : (Jvm.Cond.unhidden "java/util/LinkedList" "get" "(I)Ljava/lang/Object;") ∈ lw_tbl := lw_at lw_m3 165 rfl
theorem q774 : (Jvm.Cond.instanceMethod ({ cls := "java/util/LinkedList", name := "get", desc := "(I)Ljava/lang/Object;" } : Jvm.MethodName)) ∈ lw_all := lw_g (lw_at lw_m3 166 rfl) rfl
theorem q775 : (Jvm.Cond.publicMethod ({ cls := "java/util/LinkedList", name := "get", desc := "(I)Ljava/lang/Object;" } : Jvm.MethodName)) ∈ lw_tbl := lw_at lw_m3 167 rfl
theorem q776 : (Jvm.Cond.code ({ cls := "java/util/LinkedList", name := "get", desc := "(I)Ljava/lang/Object;" } : Jvm.MethodName) prog_54_method_22_code (2 : Nat) (Option.some (Jvm.ClassFile.FieldType.object "java/lang/Object"))) ∈ lw_all := lw_g (lw_at lw_m3 168 rfl) rfl
theorem q777 : (Jvm.Cond.methodLink "java/util/LinkedList" (90 : Nat) ({ cls := "java/util/LinkedList", name := "checkElementIndex", desc := "(I)V" } : Jvm.MethodName)) ∈ lw_all := lw_g (lw_at lw_m3 169 rfl) rfl
theorem q778 : (Jvm.Cond.privateMethod ({ cls := "java/util/LinkedList", name := "checkElementIndex", desc := "(I)V" } : Jvm.MethodName)) ∈ lw_tbl := lw_at lw_m3 170 rfl
theorem q779 : (Jvm.Cond.instanceMethod ({ cls := "java/util/LinkedList", name := "checkElementIndex", desc := "(I)V" } : Jvm.MethodName)) ∈ lw_all := lw_g (lw_at lw_m3 171 rfl) rfl
theorem q780 : (Jvm.Cond.code ({ cls := "java/util/LinkedList", name := "checkElementIndex", desc := "(I)V" } : Jvm.MethodName) prog_54_method_29_code (2 : Nat) (Option.none : Option Jvm.ClassFile.FieldType)) ∈ lw_all := lw_g (lw_at lw_m3 172 rfl) rfl
theorem q781 : (Jvm.Cond.methodLink "java/util/LinkedList" (115 : Nat) ({ cls := "java/util/LinkedList", name := "isElementIndex", desc := "(I)Z" } : Jvm.MethodName)) ∈ lw_all := lw_g (lw_at lw_m3 173 rfl) rfl
theorem q782 : (Jvm.Cond.privateMethod ({ cls := "java/util/LinkedList", name := "isElementIndex", desc := "(I)Z" } : Jvm.MethodName)) ∈ lw_tbl := lw_at lw_m3 174 rfl
theorem q783 : (Jvm.Cond.instanceMethod ({ cls := "java/util/LinkedList", name := "isElementIndex", desc := "(I)Z" } : Jvm.MethodName)) ∈ lw_all := lw_g (lw_at lw_m3 175 rfl) rfl
theorem q784 : (Jvm.Cond.code ({ cls := "java/util/LinkedList", name := "isElementIndex", desc := "(I)Z" } : Jvm.MethodName) prog_54_method_26_code (2 : Nat) (Option.some Jvm.ClassFile.FieldType.boolean)) ∈ lw_all := lw_g (lw_at lw_m3 176 rfl) rfl
theorem q785 : (Jvm.Cond.classLink "java/util/LinkedList" (119 : Nat) "java/lang/IndexOutOfBoundsException") ∈ lw_all := lw_g (lw_at lw_m3 177 rfl) rfl
theorem q794 : (Jvm.Cond.methodLink "java/util/LinkedList" (121 : Nat) ({ cls := "java/util/LinkedList", name := "outOfBoundsMsg", desc := "(I)Ljava/lang/String;" } : Jvm.MethodName)) ∈ lw_all := lw_g (lw_at lw_m3 186 rfl) rfl
theorem q795 : (Jvm.Cond.privateMethod ({ cls := "java/util/LinkedList", name := "outOfBoundsMsg", desc := "(I)Ljava/lang/String;" } : Jvm.MethodName)) ∈ lw_tbl := lw_at lw_m3 187 rfl
theorem q796 : (Jvm.Cond.instanceMethod ({ cls := "java/util/LinkedList", name := "outOfBoundsMsg", desc := "(I)Ljava/lang/String;" } : Jvm.MethodName)) ∈ lw_all := lw_g (lw_at lw_m3 188 rfl) rfl
theorem q797 : (Jvm.Cond.code ({ cls := "java/util/LinkedList", name := "outOfBoundsMsg", desc := "(I)Ljava/lang/String;" } : Jvm.MethodName) prog_54_method_28_code (2 : Nat) (Option.some (Jvm.ClassFile.FieldType.object "java/lang/String"))) ∈ lw_all := lw_g (lw_at lw_m3 189 rfl) rfl
theorem q798 : (Jvm.Cond.classLink "java/util/LinkedList" (97 : Nat) "java/lang/StringBuilder") ∈ lw_all := lw_g (lw_at lw_m3 190 rfl) rfl
theorem q799 : (Jvm.Cond.methodLink "java/util/LinkedList" (99 : Nat) ({ cls := "java/lang/StringBuilder", name := "<init>", desc := "()V" } : Jvm.MethodName)) ∈ lw_all := lw_g (lw_at lw_m3 191 rfl) rfl
theorem q800 : (Jvm.Cond.stringRef "java/util/LinkedList" (100 : Nat) "Index: ") ∈ lw_tbl := lw_at lw_m3 192 rfl
theorem q801 : (Jvm.Cond.methodLink "java/util/LinkedList" (102 : Nat) ({ cls := "java/lang/StringBuilder", name := "append", desc := "(Ljava/lang/String;)Ljava/lang/StringBuilder;" } : Jvm.MethodName)) ∈ lw_all := lw_g (lw_at lw_m3 193 rfl) rfl
theorem q802 : (Jvm.Cond.methodLink "java/util/LinkedList" (106 : Nat) ({ cls := "java/lang/StringBuilder", name := "append", desc := "(I)Ljava/lang/StringBuilder;" } : Jvm.MethodName)) ∈ lw_all := lw_g (lw_at lw_m3 194 rfl) rfl
theorem q803 : (Jvm.Cond.stringRef "java/util/LinkedList" (109 : Nat) ", Size: ") ∈ lw_tbl := lw_at lw_m3 195 rfl
theorem q804 : (Jvm.Cond.methodLink "java/util/LinkedList" (111 : Nat) ({ cls := "java/lang/StringBuilder", name := "toString", desc := "()Ljava/lang/String;" } : Jvm.MethodName)) ∈ lw_all := lw_g (lw_at lw_m3 196 rfl) rfl
theorem q805 : (Jvm.Cond.methodLink "java/util/LinkedList" (125 : Nat) ({ cls := "java/lang/IndexOutOfBoundsException", name := "<init>", desc := "(Ljava/lang/String;)V" } : Jvm.MethodName)) ∈ lw_all := lw_g (lw_at lw_m3 197 rfl) rfl
theorem q811 : (Jvm.Cond.methodLink "java/util/LinkedList" (86 : Nat) ({ cls := "java/util/LinkedList", name := "node", desc := "(I)Ljava/util/LinkedList$Node;" } : Jvm.MethodName)) ∈ lw_all := lw_g (lw_at lw_m3 203 rfl) rfl
theorem q812 : (Jvm.Cond.instanceMethod ({ cls := "java/util/LinkedList", name := "node", desc := "(I)Ljava/util/LinkedList$Node;" } : Jvm.MethodName)) ∈ lw_all := lw_g (lw_at lw_m3 204 rfl) rfl
theorem q813 : (Jvm.Cond.selects "java/util/LinkedList" ({ cls := "java/util/LinkedList", name := "node", desc := "(I)Ljava/util/LinkedList$Node;" } : Jvm.MethodName) ({ cls := "java/util/LinkedList", name := "node", desc := "(I)Ljava/util/LinkedList$Node;" } : Jvm.MethodName)) ∈ lw_all := lw_g (lw_at lw_m3 205 rfl) rfl
theorem q814 : (Jvm.Cond.code ({ cls := "java/util/LinkedList", name := "node", desc := "(I)Ljava/util/LinkedList$Node;" } : Jvm.MethodName) prog_54_method_31_code (4 : Nat) (Option.some (Jvm.ClassFile.FieldType.object "java/util/LinkedList$Node"))) ∈ lw_all := lw_g (lw_at lw_m3 206 rfl) rfl
theorem q1017 : (Jvm.Cond.selects "java/util/LinkedList" ({ cls := "java/lang/Object", name := "getClass", desc := "()Ljava/lang/Class;" } : Jvm.MethodName) ({ cls := "java/lang/Object", name := "getClass", desc := "()Ljava/lang/Class;" } : Jvm.MethodName)) ∈ lw_all := lw_g (lw_at lw_m4 169 rfl) rfl
theorem q1027 : (Jvm.Cond.selects "java/util/LinkedList" ({ cls := "java/util/List", name := "add", desc := "(Ljava/lang/Object;)Z" } : Jvm.MethodName) ({ cls := "java/util/LinkedList", name := "add", desc := "(Ljava/lang/Object;)Z" } : Jvm.MethodName)) ∈ lw_all := lw_g (lw_at lw_m4 179 rfl) rfl
theorem q1028 : (Jvm.Cond.unhidden "java/util/LinkedList" "add" "(Ljava/lang/Object;)Z") ∈ lw_tbl := lw_at lw_m4 180 rfl
theorem q1029 : (Jvm.Cond.instanceMethod ({ cls := "java/util/LinkedList", name := "add", desc := "(Ljava/lang/Object;)Z" } : Jvm.MethodName)) ∈ lw_all := lw_g (lw_at lw_m4 181 rfl) rfl
theorem q1030 : (Jvm.Cond.publicMethod ({ cls := "java/util/LinkedList", name := "add", desc := "(Ljava/lang/Object;)Z" } : Jvm.MethodName)) ∈ lw_tbl := lw_at lw_m4 182 rfl
theorem q1031 : (Jvm.Cond.code ({ cls := "java/util/LinkedList", name := "add", desc := "(Ljava/lang/Object;)Z" } : Jvm.MethodName) prog_54_method_17_code (2 : Nat) (Option.some Jvm.ClassFile.FieldType.boolean)) ∈ lw_all := lw_g (lw_at lw_m4 183 rfl) rfl
theorem q1032 : (Jvm.Cond.methodLink "java/util/LinkedList" (57 : Nat) ({ cls := "java/util/LinkedList", name := "linkLast", desc := "(Ljava/lang/Object;)V" } : Jvm.MethodName)) ∈ lw_all := lw_g (lw_at lw_m4 184 rfl) rfl
theorem q1033 : (Jvm.Cond.instanceMethod ({ cls := "java/util/LinkedList", name := "linkLast", desc := "(Ljava/lang/Object;)V" } : Jvm.MethodName)) ∈ lw_all := lw_g (lw_at lw_m4 185 rfl) rfl
theorem q1034 : (Jvm.Cond.selects "java/util/LinkedList" ({ cls := "java/util/LinkedList", name := "linkLast", desc := "(Ljava/lang/Object;)V" } : Jvm.MethodName) ({ cls := "java/util/LinkedList", name := "linkLast", desc := "(Ljava/lang/Object;)V" } : Jvm.MethodName)) ∈ lw_all := lw_g (lw_at lw_m4 186 rfl) rfl
theorem q1035 : (Jvm.Cond.code ({ cls := "java/util/LinkedList", name := "linkLast", desc := "(Ljava/lang/Object;)V" } : Jvm.MethodName) prog_54_method_4_code (4 : Nat) (Option.none : Option Jvm.ClassFile.FieldType)) ∈ lw_all := lw_g (lw_at lw_m4 187 rfl) rfl
theorem q1036 : (Jvm.Cond.classLink "java/util/LinkedList" (22 : Nat) "java/util/LinkedList$Node") ∈ lw_all := lw_g (lw_at lw_m4 188 rfl) rfl
theorem q1038 : (Jvm.Cond.methodLink "java/util/LinkedList" (24 : Nat) ({ cls := "java/util/LinkedList$Node", name := "<init>", desc := "(Ljava/util/LinkedList$Node;Ljava/lang/Object;Ljava/util/LinkedList$Node;)V" } : Jvm.MethodName)) ∈ lw_all := lw_g (lw_at lw_m4 190 rfl) rfl
theorem q1043 : (Jvm.Cond.fieldLink "java/util/LinkedList" (39 : Nat) "java/util/LinkedList$Node" "item" "Ljava/lang/Object;") ∈ lw_all := lw_g (lw_at lw_m4 195 rfl) rfl
theorem q1045 : (Jvm.Cond.fieldLink "java/util/LinkedList" (36 : Nat) "java/util/LinkedList$Node" "next" "Ljava/util/LinkedList$Node;") ∈ lw_all := lw_g (lw_at lw_m4 197 rfl) rfl
theorem q1047 : (Jvm.Cond.fieldLink "java/util/LinkedList" (30 : Nat) "java/util/LinkedList$Node" "prev" "Ljava/util/LinkedList$Node;") ∈ lw_all := lw_g (lw_at lw_m4 199 rfl) rfl
theorem q1597 : (Jvm.Cond.instanceMethod ({ cls := "java/util/LinkedList", name := "clear", desc := "()V" } : Jvm.MethodName)) ∈ lw_all := lw_g (lw_at lw_m7 29 rfl) rfl
theorem q1598 : (Jvm.Cond.selects "java/util/LinkedList" ({ cls := "java/util/LinkedList", name := "clear", desc := "()V" } : Jvm.MethodName) ({ cls := "java/util/LinkedList", name := "clear", desc := "()V" } : Jvm.MethodName)) ∈ lw_all := lw_g (lw_at lw_m7 30 rfl) rfl
theorem q1599 : (Jvm.Cond.code ({ cls := "java/util/LinkedList", name := "clear", desc := "()V" } : Jvm.MethodName) prog_54_method_21_code (3 : Nat) (Option.none : Option Jvm.ClassFile.FieldType)) ∈ lw_all := lw_g (lw_at lw_m7 31 rfl) rfl
theorem q1602 : (Jvm.Cond.instanceMethod ({ cls := "java/util/LinkedList", name := "addLast", desc := "(Ljava/lang/Object;)V" } : Jvm.MethodName)) ∈ lw_all := lw_g (lw_at lw_m7 34 rfl) rfl
theorem q1603 : (Jvm.Cond.selects "java/util/LinkedList" ({ cls := "java/util/LinkedList", name := "addLast", desc := "(Ljava/lang/Object;)V" } : Jvm.MethodName) ({ cls := "java/util/LinkedList", name := "addLast", desc := "(Ljava/lang/Object;)V" } : Jvm.MethodName)) ∈ lw_all := lw_g (lw_at lw_m7 35 rfl) rfl
theorem q1604 : (Jvm.Cond.code ({ cls := "java/util/LinkedList", name := "addLast", desc := "(Ljava/lang/Object;)V" } : Jvm.MethodName) prog_54_method_14_code (2 : Nat) (Option.none : Option Jvm.ClassFile.FieldType)) ∈ lw_all := lw_g (lw_at lw_m7 36 rfl) rfl
theorem q1764 : (Jvm.Cond.sameMethod "java/util/LinkedList" "java/util/AbstractCollection" "isEmpty" "()Z") ∈ lw_all := lw_g (lw_at lw_m7 196 rfl) rfl
theorem q1766 : (Jvm.Cond.selects "java/util/LinkedList" ({ cls := "java/util/LinkedList", name := "isEmpty", desc := "()Z" } : Jvm.MethodName) ({ cls := "java/util/AbstractCollection", name := "isEmpty", desc := "()Z" } : Jvm.MethodName)) ∈ lw_all := lw_g (lw_at lw_m7 198 rfl) rfl
theorem q1773 : (Jvm.Cond.selects "java/util/LinkedList" ({ cls := "java/util/AbstractCollection", name := "size", desc := "()I" } : Jvm.MethodName) ({ cls := "java/util/LinkedList", name := "size", desc := "()I" } : Jvm.MethodName)) ∈ lw_all := lw_g (lw_at lw_m7 205 rfl) rfl
theorem q1775 : (Jvm.Cond.instanceMethod ({ cls := "java/util/LinkedList", name := "removeFirst", desc := "()Ljava/lang/Object;" } : Jvm.MethodName)) ∈ lw_all := lw_g (lw_at lw_m7 207 rfl) rfl
theorem q1776 : (Jvm.Cond.selects "java/util/LinkedList" ({ cls := "java/util/LinkedList", name := "removeFirst", desc := "()Ljava/lang/Object;" } : Jvm.MethodName) ({ cls := "java/util/LinkedList", name := "removeFirst", desc := "()Ljava/lang/Object;" } : Jvm.MethodName)) ∈ lw_all := lw_g (lw_at lw_m7 208 rfl) rfl
theorem q1777 : (Jvm.Cond.code ({ cls := "java/util/LinkedList", name := "removeFirst", desc := "()Ljava/lang/Object;" } : Jvm.MethodName) prog_54_method_11_code (2 : Nat) (Option.some (Jvm.ClassFile.FieldType.object "java/lang/Object"))) ∈ lw_all := lw_g (lw_at lw_m7 209 rfl) rfl
theorem q1778 : (Jvm.Cond.methodLink "java/util/LinkedList" (46 : Nat) ({ cls := "java/util/LinkedList", name := "unlinkFirst", desc := "(Ljava/util/LinkedList$Node;)Ljava/lang/Object;" } : Jvm.MethodName)) ∈ lw_all := lw_g (lw_at lw_m7 210 rfl) rfl
theorem q1779 : (Jvm.Cond.privateMethod ({ cls := "java/util/LinkedList", name := "unlinkFirst", desc := "(Ljava/util/LinkedList$Node;)Ljava/lang/Object;" } : Jvm.MethodName)) ∈ lw_tbl := lw_at lw_m7 211 rfl
theorem q1780 : (Jvm.Cond.instanceMethod ({ cls := "java/util/LinkedList", name := "unlinkFirst", desc := "(Ljava/util/LinkedList$Node;)Ljava/lang/Object;" } : Jvm.MethodName)) ∈ lw_all := lw_g (lw_at lw_m7 212 rfl) rfl
theorem q1781 : (Jvm.Cond.code ({ cls := "java/util/LinkedList", name := "unlinkFirst", desc := "(Ljava/util/LinkedList$Node;)Ljava/lang/Object;" } : Jvm.MethodName) prog_54_method_6_code (4 : Nat) (Option.some (Jvm.ClassFile.FieldType.object "java/lang/Object"))) ∈ lw_all := lw_g (lw_at lw_m7 213 rfl) rfl
theorem q3245 : (Jvm.Cond.selects "java/util/LinkedList" ({ cls := "java/util/LinkedList", name := "size", desc := "()I" } : Jvm.MethodName) ({ cls := "java/util/LinkedList", name := "size", desc := "()I" } : Jvm.MethodName)) ∈ lw_all := lw_g (lw_at lw_m13 237 rfl) rfl
theorem q3264 : (Jvm.Cond.castable "java/util/LinkedList" "java/lang/Object") ∈ lw_tbl := lw_at lw_m14 16 rfl
theorem in_J19 : ∀ w ∈ wsJ190, w ∈ lw_all := lw_in wsJ190 [681, 675, 677, 679] (by decide +kernel) (by decide +kernel)
/-! java/util/LinkedList$Node -/
set_option maxRecDepth 100000
def RJ20 : String := "java/util/LinkedList$Node"
def TJ20 : u_T := fun k => match k with
  | 0 => ("java/util/LinkedList$Node", "item", "Ljava/lang/Object;", false)
  | 1 => ("java/util/LinkedList$Node", "next", "Ljava/util/LinkedList$Node;", false)
  | _ => ("java/util/LinkedList$Node", "prev", "Ljava/util/LinkedList$Node;", false)
def tyJ20 : Nat → FieldType := fun k => match k with
  | 0 => .object "java/lang/Object"
  | 1 => .object "java/util/LinkedList$Node"
  | _ => .object "java/util/LinkedList$Node"
abbrev wsJ200 : List Cond := u_ws RJ20 TJ20 3
theorem nmJ20 : ∀ a, a < 3 → ∀ b, b < 3 → a ≠ b → (TJ20 a).2.1 ≠ (TJ20 b).2.1 := by decide +kernel
theorem tyJ20_ok : ∀ k, k < 3 → parseFieldDescriptor (TJ20 k).2.2.1 = some (tyJ20 k) := by decide +kernel
abbrev cJ20_init : ByteArray := prog_55_method_1_code
def yJ20_init : MethodName := ⟨RJ20, "<init>", "(Ljava/util/LinkedList$Node;Ljava/lang/Object;Ljava/util/LinkedList$Node;)V"⟩
def dkwJ20_init_0 : List UInt8 := [42, 183, 0, 1, 42, 44, 181, 0, 7, 42, 45, 181, 0, 13, 42, 43, 181, 0, 17, 177]
abbrev dktJ20_init_0 : List UInt8 := dkwJ20_init_0 ++ []
theorem dksJ20_init_0 : cJ20_init.data.toList.drop 0 = dktJ20_init_0 := by decide +kernel
theorem dJ20_init_0 : decode cJ20_init 0 = .ok (.aload_n 0, 1) := dk_42 (dk_at dksJ20_init_0 0 rfl rfl)
theorem dJ20_init_1 : decode cJ20_init 1 = .ok (.invokespecial 1, 3) := dk_183 0 1 (dk_at dksJ20_init_0 1 rfl rfl)
theorem dJ20_init_4 : decode cJ20_init 4 = .ok (.aload_n 0, 1) := dk_42 (dk_at dksJ20_init_0 4 rfl rfl)
theorem dJ20_init_5 : decode cJ20_init 5 = .ok (.aload_n 2, 1) := dk_44 (dk_at dksJ20_init_0 5 rfl rfl)
theorem dJ20_init_6 : decode cJ20_init 6 = .ok (.putfield 7, 3) := dk_181 0 7 (dk_at dksJ20_init_0 6 rfl rfl)
theorem dJ20_init_9 : decode cJ20_init 9 = .ok (.aload_n 0, 1) := dk_42 (dk_at dksJ20_init_0 9 rfl rfl)
theorem dJ20_init_10 : decode cJ20_init 10 = .ok (.aload_n 3, 1) := dk_45 (dk_at dksJ20_init_0 10 rfl rfl)
theorem dJ20_init_11 : decode cJ20_init 11 = .ok (.putfield 13, 3) := dk_181 0 13 (dk_at dksJ20_init_0 11 rfl rfl)
theorem dJ20_init_14 : decode cJ20_init 14 = .ok (.aload_n 0, 1) := dk_42 (dk_at dksJ20_init_0 14 rfl rfl)
theorem dJ20_init_15 : decode cJ20_init 15 = .ok (.aload_n 1, 1) := dk_43 (dk_at dksJ20_init_0 15 rfl rfl)
theorem dJ20_init_16 : decode cJ20_init 16 = .ok (.putfield 17, 3) := dk_181 0 17 (dk_at dksJ20_init_0 16 rfl rfl)
theorem dJ20_init_19 : decode cJ20_init 19 = .ok (.return_, 1) := dk_177 (dk_at dksJ20_init_0 19 rfl rfl)
theorem q161 : (Jvm.Cond.initialized "java/util/LinkedList$Node") ∈ lw_all := lw_g (lw_at lw_m1 33 rfl) rfl
theorem q1018 : (Jvm.Cond.selects "java/util/LinkedList$Node" ({ cls := "java/lang/Object", name := "getClass", desc := "()Ljava/lang/Class;" } : Jvm.MethodName) ({ cls := "java/lang/Object", name := "getClass", desc := "()Ljava/lang/Class;" } : Jvm.MethodName)) ∈ lw_all := lw_g (lw_at lw_m4 170 rfl) rfl
theorem q1037 : (Jvm.Cond.instantiable "java/util/LinkedList$Node" (3 : Nat)) ∈ lw_all := lw_g (lw_at lw_m4 189 rfl) rfl
theorem q1039 : (Jvm.Cond.instanceMethod ({ cls := "java/util/LinkedList$Node", name := "<init>", desc := "(Ljava/util/LinkedList$Node;Ljava/lang/Object;Ljava/util/LinkedList$Node;)V" } : Jvm.MethodName)) ∈ lw_all := lw_g (lw_at lw_m4 191 rfl) rfl
theorem q1040 : (Jvm.Cond.code ({ cls := "java/util/LinkedList$Node", name := "<init>", desc := "(Ljava/util/LinkedList$Node;Ljava/lang/Object;Ljava/util/LinkedList$Node;)V" } : Jvm.MethodName) prog_55_method_1_code (4 : Nat) (Option.none : Option Jvm.ClassFile.FieldType)) ∈ lw_all := lw_g (lw_at lw_m4 192 rfl) rfl
theorem q1041 : (Jvm.Cond.methodLink "java/util/LinkedList$Node" (1 : Nat) ({ cls := "java/lang/Object", name := "<init>", desc := "()V" } : Jvm.MethodName)) ∈ lw_all := lw_g (lw_at lw_m4 193 rfl) rfl
theorem q1042 : (Jvm.Cond.fieldLink "java/util/LinkedList$Node" (7 : Nat) "java/util/LinkedList$Node" "item" "Ljava/lang/Object;") ∈ lw_all := lw_g (lw_at lw_m4 194 rfl) rfl
theorem q1044 : (Jvm.Cond.fieldLink "java/util/LinkedList$Node" (13 : Nat) "java/util/LinkedList$Node" "next" "Ljava/util/LinkedList$Node;") ∈ lw_all := lw_g (lw_at lw_m4 196 rfl) rfl
theorem q1046 : (Jvm.Cond.fieldLink "java/util/LinkedList$Node" (17 : Nat) "java/util/LinkedList$Node" "prev" "Ljava/util/LinkedList$Node;") ∈ lw_all := lw_g (lw_at lw_m4 198 rfl) rfl
theorem q1048 : (Jvm.Cond.lays "java/util/LinkedList$Node" "java/util/LinkedList$Node" "item" "Ljava/lang/Object;") ∈ lw_all := lw_g (lw_at lw_m4 200 rfl) rfl
theorem q1049 : (Jvm.Cond.soleField "java/util/LinkedList$Node" "item") ∈ lw_all := lw_g (lw_at lw_m4 201 rfl) rfl
theorem q1050 : (Jvm.Cond.lays "java/util/LinkedList$Node" "java/util/LinkedList$Node" "next" "Ljava/util/LinkedList$Node;") ∈ lw_all := lw_g (lw_at lw_m4 202 rfl) rfl
theorem q1051 : (Jvm.Cond.soleField "java/util/LinkedList$Node" "next") ∈ lw_all := lw_g (lw_at lw_m4 203 rfl) rfl
theorem q1052 : (Jvm.Cond.lays "java/util/LinkedList$Node" "java/util/LinkedList$Node" "prev" "Ljava/util/LinkedList$Node;") ∈ lw_all := lw_g (lw_at lw_m4 204 rfl) rfl
theorem q1053 : (Jvm.Cond.soleField "java/util/LinkedList$Node" "prev") ∈ lw_all := lw_g (lw_at lw_m4 205 rfl) rfl
theorem q1054 : (Jvm.Cond.superclass "java/util/LinkedList$Node" "java/lang/Object") ∈ lw_all := lw_g (lw_at lw_m4 206 rfl) rfl
theorem q3271 : (Jvm.Cond.castable "java/util/LinkedList$Node" "java/lang/Object") ∈ lw_tbl := lw_at lw_m14 23 rfl
theorem in_J20 : ∀ w ∈ wsJ200, w ∈ lw_all := lw_in wsJ200 [1048, 1050, 1052] (by decide +kernel) (by decide +kernel)
/-! java/util/Objects -/
set_option maxRecDepth 100000
def RJ21 : String := "java/util/Objects"
abbrev cJ21_checkIndex : ByteArray := prog_57_method_17_code
def yJ21_checkIndex : MethodName := ⟨RJ21, "checkIndex", "(II)I"⟩
def dkwJ21_checkIndex_0 : List UInt8 := [26, 27, 1, 184, 0, 105, 172]
abbrev dktJ21_checkIndex_0 : List UInt8 := dkwJ21_checkIndex_0 ++ []
theorem dksJ21_checkIndex_0 : cJ21_checkIndex.data.toList.drop 0 = dktJ21_checkIndex_0 := by decide +kernel
theorem dJ21_checkIndex_0 : decode cJ21_checkIndex 0 = .ok (.iload_n 0, 1) := dk_26 (dk_at dksJ21_checkIndex_0 0 rfl rfl)
theorem dJ21_checkIndex_1 : decode cJ21_checkIndex 1 = .ok (.iload_n 1, 1) := dk_27 (dk_at dksJ21_checkIndex_0 1 rfl rfl)
theorem dJ21_checkIndex_2 : decode cJ21_checkIndex 2 = .ok (.aconst_null, 1) := dk_1 (dk_at dksJ21_checkIndex_0 2 rfl rfl)
theorem dJ21_checkIndex_3 : decode cJ21_checkIndex 3 = .ok (.invokestatic 105, 3) := dk_184 0 105 (dk_at dksJ21_checkIndex_0 3 rfl rfl)
theorem dJ21_checkIndex_6 : decode cJ21_checkIndex 6 = .ok (.ireturn, 1) := dk_172 (dk_at dksJ21_checkIndex_0 6 rfl rfl)
theorem q162 : (Jvm.Cond.initialized "java/util/Objects") ∈ lw_all := lw_g (lw_at lw_m1 34 rfl) rfl
theorem q763 : (Jvm.Cond.static ({ cls := "java/util/Objects", name := "checkIndex", desc := "(II)I" } : Jvm.MethodName)) ∈ lw_all := lw_g (lw_at lw_m3 155 rfl) rfl
theorem q764 : (Jvm.Cond.code ({ cls := "java/util/Objects", name := "checkIndex", desc := "(II)I" } : Jvm.MethodName) prog_57_method_17_code (2 : Nat) (Option.some Jvm.ClassFile.FieldType.int)) ∈ lw_all := lw_g (lw_at lw_m3 156 rfl) rfl
theorem q765 : (Jvm.Cond.methodLink "java/util/Objects" (105 : Nat) ({ cls := "jdk/internal/util/Preconditions", name := "checkIndex", desc := "(IILjava/util/function/BiFunction;)I" } : Jvm.MethodName)) ∈ lw_all := lw_g (lw_at lw_m3 157 rfl) rfl
/-! java/lang/IndexOutOfBoundsException -/
set_option maxRecDepth 100000
def RJ22 : String := "java/lang/IndexOutOfBoundsException"
def TJ22 : u_T := fun k => match k with
  | 0 => ("java/lang/Throwable", "cause", "Ljava/lang/Throwable;", false)
  | 1 => ("java/lang/Throwable", "stackTrace", "[Ljava/lang/StackTraceElement;", false)
  | 2 => ("java/lang/Throwable", "suppressedExceptions", "Ljava/util/List;", false)
  | 3 => ("java/lang/Throwable", "detailMessage", "Ljava/lang/String;", false)
  | 4 => ("java/lang/Throwable", "backtrace", "Ljava/lang/Object;", false)
  | _ => ("java/lang/Throwable", "depth", "I", false)
def tyJ22 : Nat → FieldType := fun k => match k with
  | 0 => .object "java/lang/Throwable"
  | 1 => .array (.object "java/lang/StackTraceElement")
  | 2 => .object "java/util/List"
  | 3 => .object "java/lang/String"
  | 4 => .object "java/lang/Object"
  | _ => .int
abbrev wsJ220 : List Cond := u_ws RJ22 TJ22 6
theorem nmJ22 : ∀ a, a < 6 → ∀ b, b < 6 → a ≠ b → (TJ22 a).2.1 ≠ (TJ22 b).2.1 := by decide +kernel
theorem tyJ22_ok : ∀ k, k < 6 → parseFieldDescriptor (TJ22 k).2.2.1 = some (tyJ22 k) := by decide +kernel
abbrev cJ22_init : ByteArray := prog_28_method_2_code
def yJ22_init : MethodName := ⟨RJ22, "<init>", "(Ljava/lang/String;)V"⟩
def dkwJ22_init_0 : List UInt8 := [42, 43, 183, 0, 7, 177]
abbrev dktJ22_init_0 : List UInt8 := dkwJ22_init_0 ++ []
theorem dksJ22_init_0 : cJ22_init.data.toList.drop 0 = dktJ22_init_0 := by decide +kernel
theorem dJ22_init_0 : decode cJ22_init 0 = .ok (.aload_n 0, 1) := dk_42 (dk_at dksJ22_init_0 0 rfl rfl)
theorem dJ22_init_1 : decode cJ22_init 1 = .ok (.aload_n 1, 1) := dk_43 (dk_at dksJ22_init_0 1 rfl rfl)
theorem dJ22_init_2 : decode cJ22_init 2 = .ok (.invokespecial 7, 3) := dk_183 0 7 (dk_at dksJ22_init_0 2 rfl rfl)
theorem dJ22_init_5 : decode cJ22_init 5 = .ok (.return_, 1) := dk_177 (dk_at dksJ22_init_0 5 rfl rfl)
abbrev cJ22_init_2 : ByteArray := prog_28_method_1_code
def yJ22_init_2 : MethodName := ⟨RJ22, "<init>", "()V"⟩
theorem dJ22_init_2_0 : decode cJ22_init_2 0 = .ok (.aload_n 0, 1) := by decide +kernel
theorem dJ22_init_2_1 : decode cJ22_init_2 1 = .ok (.invokespecial 1, 3) := by decide +kernel
theorem dJ22_init_2_4 : decode cJ22_init_2 4 = .ok (.return_, 1) := by decide +kernel
theorem q163 : (Jvm.Cond.initialized "java/lang/IndexOutOfBoundsException") ∈ lw_all := lw_g (lw_at lw_m1 35 rfl) rfl
theorem q242 : (Jvm.Cond.selects "java/lang/IndexOutOfBoundsException" ({ cls := "java/lang/Throwable", name := "fillInStackTrace", desc := "()Ljava/lang/Throwable;" } : Jvm.MethodName) ({ cls := "java/lang/Throwable", name := "fillInStackTrace", desc := "()Ljava/lang/Throwable;" } : Jvm.MethodName)) ∈ lw_all := lw_g (lw_at lw_m1 114 rfl) rfl
theorem q786 : (Jvm.Cond.instantiable "java/lang/IndexOutOfBoundsException" (6 : Nat)) ∈ lw_all := lw_g (lw_at lw_m3 178 rfl) rfl
theorem q787 : (Jvm.Cond.castable "java/lang/IndexOutOfBoundsException" "java/lang/IndexOutOfBoundsException") ∈ lw_tbl := lw_at lw_m3 179 rfl
theorem q788 : (Jvm.Cond.selects "java/lang/IndexOutOfBoundsException" ({ cls := "java/lang/Throwable", name := "fillInStackTrace", desc := "(I)Ljava/lang/Throwable;" } : Jvm.MethodName) ({ cls := "java/lang/Throwable", name := "fillInStackTrace", desc := "(I)Ljava/lang/Throwable;" } : Jvm.MethodName)) ∈ lw_all := lw_g (lw_at lw_m3 180 rfl) rfl
theorem q789 : (Jvm.Cond.lays "java/lang/IndexOutOfBoundsException" "java/lang/Throwable" "cause" "Ljava/lang/Throwable;") ∈ lw_all := lw_g (lw_at lw_m3 181 rfl) rfl
theorem q790 : (Jvm.Cond.lays "java/lang/IndexOutOfBoundsException" "java/lang/Throwable" "stackTrace" "[Ljava/lang/StackTraceElement;") ∈ lw_all := lw_g (lw_at lw_m3 182 rfl) rfl
theorem q791 : (Jvm.Cond.lays "java/lang/IndexOutOfBoundsException" "java/lang/Throwable" "suppressedExceptions" "Ljava/util/List;") ∈ lw_all := lw_g (lw_at lw_m3 183 rfl) rfl
theorem q792 : (Jvm.Cond.lays "java/lang/IndexOutOfBoundsException" "java/lang/Throwable" "detailMessage" "Ljava/lang/String;") ∈ lw_all := lw_g (lw_at lw_m3 184 rfl) rfl
theorem q793 : (Jvm.Cond.lays "java/lang/IndexOutOfBoundsException" "java/lang/Throwable" "backtrace" "Ljava/lang/Object;") ∈ lw_all := lw_g (lw_at lw_m3 185 rfl) rfl
theorem q806 : (Jvm.Cond.instanceMethod ({ cls := "java/lang/IndexOutOfBoundsException", name := "<init>", desc := "(Ljava/lang/String;)V" } : Jvm.MethodName)) ∈ lw_all := lw_g (lw_at lw_m3 198 rfl) rfl
theorem q807 : (Jvm.Cond.code ({ cls := "java/lang/IndexOutOfBoundsException", name := "<init>", desc := "(Ljava/lang/String;)V" } : Jvm.MethodName) prog_28_method_2_code (2 : Nat) (Option.none : Option Jvm.ClassFile.FieldType)) ∈ lw_all := lw_g (lw_at lw_m3 199 rfl) rfl
theorem q808 : (Jvm.Cond.methodLink "java/lang/IndexOutOfBoundsException" (7 : Nat) ({ cls := "java/lang/RuntimeException", name := "<init>", desc := "(Ljava/lang/String;)V" } : Jvm.MethodName)) ∈ lw_all := lw_g (lw_at lw_m3 200 rfl) rfl
theorem q809 : (Jvm.Cond.lays "java/lang/IndexOutOfBoundsException" "java/lang/Throwable" "depth" "I") ∈ lw_all := lw_g (lw_at lw_m3 201 rfl) rfl
theorem q810 : (Jvm.Cond.superclass "java/lang/IndexOutOfBoundsException" "java/lang/RuntimeException") ∈ lw_all := lw_g (lw_at lw_m3 202 rfl) rfl
theorem q1011 : (Jvm.Cond.selects "java/lang/IndexOutOfBoundsException" ({ cls := "java/lang/Object", name := "getClass", desc := "()Ljava/lang/Class;" } : Jvm.MethodName) ({ cls := "java/lang/Object", name := "getClass", desc := "()Ljava/lang/Class;" } : Jvm.MethodName)) ∈ lw_all := lw_g (lw_at lw_m4 163 rfl) rfl
theorem q1799 : (Jvm.Cond.declares ({ cls := "java/lang/IndexOutOfBoundsException", name := "<init>", desc := "()V" } : Jvm.MethodName)) ∈ lw_tbl := lw_at lw_m7 231 rfl
theorem q1800 : (Jvm.Cond.declares ({ cls := "java/lang/IndexOutOfBoundsException", name := "<init>", desc := "(Ljava/lang/String;)V" } : Jvm.MethodName)) ∈ lw_tbl := lw_at lw_m7 232 rfl
theorem q1831 : (Jvm.Cond.instanceMethod ({ cls := "java/lang/IndexOutOfBoundsException", name := "<init>", desc := "()V" } : Jvm.MethodName)) ∈ lw_all := lw_g (lw_at lw_m8 23 rfl) rfl
theorem q1832 : (Jvm.Cond.code ({ cls := "java/lang/IndexOutOfBoundsException", name := "<init>", desc := "()V" } : Jvm.MethodName) prog_28_method_1_code (1 : Nat) (Option.none : Option Jvm.ClassFile.FieldType)) ∈ lw_all := lw_g (lw_at lw_m8 24 rfl) rfl
theorem q1833 : (Jvm.Cond.methodLink "java/lang/IndexOutOfBoundsException" (1 : Nat) ({ cls := "java/lang/RuntimeException", name := "<init>", desc := "()V" } : Jvm.MethodName)) ∈ lw_all := lw_g (lw_at lw_m8 25 rfl) rfl
theorem q3272 : (Jvm.Cond.castable "java/lang/IndexOutOfBoundsException" "java/lang/Object") ∈ lw_tbl := lw_at lw_m14 24 rfl
theorem in_J22 : ∀ w ∈ wsJ220, w ∈ lw_all := lw_in wsJ220 [789, 790, 791, 792, 793, 809] (by decide +kernel) (by decide +kernel)
/-! jdk/internal/misc/Unsafe -/
set_option maxRecDepth 100000
def RJ23 : String := "jdk/internal/misc/Unsafe"
abbrev cJ23_getLongUnaligned : ByteArray := prog_62_method_334_code
def yJ23_getLongUnaligned : MethodName := ⟨RJ23, "getLongUnaligned", "(Ljava/lang/Object;J)J"⟩
def dkwJ23_getLongUnaligned_7 : List UInt8 := [182, 0, 39, 184, 2, 197, 173]
abbrev dktJ23_getLongUnaligned_7 : List UInt8 := dkwJ23_getLongUnaligned_7 ++ []
def dkwJ23_getLongUnaligned_6 : List UInt8 := [20, 2, 195, 97, 182, 0, 39, 42, 43, 32, 20, 2, 190, 97, 182, 0, 39, 42, 43, 32, 20, 2, 184, 97]
abbrev dktJ23_getLongUnaligned_6 : List UInt8 := dkwJ23_getLongUnaligned_6 ++ dktJ23_getLongUnaligned_7
def dkwJ23_getLongUnaligned_5 : List UInt8 := [43, 32, 20, 1, 93, 97, 182, 0, 39, 42, 43, 32, 20, 0, 205, 97, 182, 0, 39, 42, 43, 32]
abbrev dktJ23_getLongUnaligned_5 : List UInt8 := dkwJ23_getLongUnaligned_5 ++ dktJ23_getLongUnaligned_6
def dkwJ23_getLongUnaligned_4 : List UInt8 := [43, 32, 182, 0, 39, 42, 43, 32, 10, 97, 182, 0, 39, 42, 43, 32, 20, 0, 203, 97, 182, 0, 39, 42]
abbrev dktJ23_getLongUnaligned_4 : List UInt8 := dkwJ23_getLongUnaligned_4 ++ dktJ23_getLongUnaligned_5
def dkwJ23_getLongUnaligned_3 : List UInt8 := [43, 32, 20, 0, 205, 97, 182, 0, 47, 42, 43, 32, 20, 2, 190, 97, 182, 0, 47, 184, 2, 192, 173, 42]
abbrev dktJ23_getLongUnaligned_3 : List UInt8 := dkwJ23_getLongUnaligned_3 ++ dktJ23_getLongUnaligned_4
def dkwJ23_getLongUnaligned_2 : List UInt8 := [10, 127, 9, 148, 154, 0, 43, 42, 43, 32, 182, 0, 47, 42, 43, 32, 20, 0, 203, 97, 182, 0, 47, 42]
abbrev dktJ23_getLongUnaligned_2 : List UInt8 := dkwJ23_getLongUnaligned_2 ++ dktJ23_getLongUnaligned_3
def dkwJ23_getLongUnaligned_1 : List UInt8 := [154, 0, 23, 42, 43, 32, 182, 0, 17, 42, 43, 32, 20, 0, 205, 97, 182, 0, 17, 184, 2, 186, 173, 32]
abbrev dktJ23_getLongUnaligned_1 : List UInt8 := dkwJ23_getLongUnaligned_1 ++ dktJ23_getLongUnaligned_2
def dkwJ23_getLongUnaligned_0 : List UInt8 := [32, 20, 2, 184, 127, 9, 148, 154, 0, 10, 42, 43, 32, 182, 0, 27, 173, 32, 20, 1, 93, 127, 9, 148]
abbrev dktJ23_getLongUnaligned_0 : List UInt8 := dkwJ23_getLongUnaligned_0 ++ dktJ23_getLongUnaligned_1
theorem dksJ23_getLongUnaligned_0 : cJ23_getLongUnaligned.data.toList.drop 0 = dktJ23_getLongUnaligned_0 := by decide +kernel
theorem dksJ23_getLongUnaligned_1 : cJ23_getLongUnaligned.data.toList.drop 24 = dktJ23_getLongUnaligned_1 := dk_seg dksJ23_getLongUnaligned_0 24 rfl rfl
theorem dksJ23_getLongUnaligned_2 : cJ23_getLongUnaligned.data.toList.drop 48 = dktJ23_getLongUnaligned_2 := dk_seg dksJ23_getLongUnaligned_1 24 rfl rfl
theorem dksJ23_getLongUnaligned_3 : cJ23_getLongUnaligned.data.toList.drop 72 = dktJ23_getLongUnaligned_3 := dk_seg dksJ23_getLongUnaligned_2 24 rfl rfl
theorem dksJ23_getLongUnaligned_4 : cJ23_getLongUnaligned.data.toList.drop 96 = dktJ23_getLongUnaligned_4 := dk_seg dksJ23_getLongUnaligned_3 24 rfl rfl
theorem dksJ23_getLongUnaligned_5 : cJ23_getLongUnaligned.data.toList.drop 120 = dktJ23_getLongUnaligned_5 := dk_seg dksJ23_getLongUnaligned_4 24 rfl rfl
theorem dksJ23_getLongUnaligned_6 : cJ23_getLongUnaligned.data.toList.drop 142 = dktJ23_getLongUnaligned_6 := dk_seg dksJ23_getLongUnaligned_5 22 rfl rfl
theorem dksJ23_getLongUnaligned_7 : cJ23_getLongUnaligned.data.toList.drop 166 = dktJ23_getLongUnaligned_7 := dk_seg dksJ23_getLongUnaligned_6 24 rfl rfl
theorem dJ23_getLongUnaligned_0 : decode cJ23_getLongUnaligned 0 = .ok (.lload_n 2, 1) := dk_32 (dk_at dksJ23_getLongUnaligned_0 0 rfl rfl)
theorem dJ23_getLongUnaligned_1 : decode cJ23_getLongUnaligned 1 = .ok (.ldc2_w 696, 3) := dk_20 2 184 (dk_at dksJ23_getLongUnaligned_0 1 rfl rfl)
theorem dJ23_getLongUnaligned_4 : decode cJ23_getLongUnaligned 4 = .ok (.land, 1) := dk_127 (dk_at dksJ23_getLongUnaligned_0 4 rfl rfl)
theorem dJ23_getLongUnaligned_5 : decode cJ23_getLongUnaligned 5 = .ok (.lconst 0, 1) := dk_9 (dk_at dksJ23_getLongUnaligned_0 5 rfl rfl)
theorem dJ23_getLongUnaligned_6 : decode cJ23_getLongUnaligned 6 = .ok (.lcmp, 1) := dk_148 (dk_at dksJ23_getLongUnaligned_0 6 rfl rfl)
theorem dJ23_getLongUnaligned_7 : decode cJ23_getLongUnaligned 7 = .ok (.ifCond .ne 10, 3) := dk_154 0 10 (dk_at dksJ23_getLongUnaligned_0 7 rfl rfl)
theorem dJ23_getLongUnaligned_10 : decode cJ23_getLongUnaligned 10 = .ok (.aload_n 0, 1) := dk_42 (dk_at dksJ23_getLongUnaligned_0 10 rfl rfl)
theorem dJ23_getLongUnaligned_11 : decode cJ23_getLongUnaligned 11 = .ok (.aload_n 1, 1) := dk_43 (dk_at dksJ23_getLongUnaligned_0 11 rfl rfl)
theorem dJ23_getLongUnaligned_12 : decode cJ23_getLongUnaligned 12 = .ok (.lload_n 2, 1) := dk_32 (dk_at dksJ23_getLongUnaligned_0 12 rfl rfl)
theorem dJ23_getLongUnaligned_13 : decode cJ23_getLongUnaligned 13 = .ok (.invokevirtual 27, 3) := dk_182 0 27 (dk_at dksJ23_getLongUnaligned_0 13 rfl rfl)
theorem dJ23_getLongUnaligned_16 : decode cJ23_getLongUnaligned 16 = .ok (.lreturn, 1) := dk_173 (dk_at dksJ23_getLongUnaligned_0 16 rfl rfl)
theorem dJ23_getLongUnaligned_17 : decode cJ23_getLongUnaligned 17 = .ok (.lload_n 2, 1) := dk_32 (dk_at dksJ23_getLongUnaligned_0 17 rfl rfl)
theorem dJ23_getLongUnaligned_18 : decode cJ23_getLongUnaligned 18 = .ok (.ldc2_w 349, 3) := dk_20 1 93 (dk_at dksJ23_getLongUnaligned_0 18 rfl rfl)
theorem dJ23_getLongUnaligned_21 : decode cJ23_getLongUnaligned 21 = .ok (.land, 1) := dk_127 (dk_at dksJ23_getLongUnaligned_0 21 rfl rfl)
theorem dJ23_getLongUnaligned_22 : decode cJ23_getLongUnaligned 22 = .ok (.lconst 0, 1) := dk_9 (dk_at dksJ23_getLongUnaligned_0 22 rfl rfl)
theorem dJ23_getLongUnaligned_23 : decode cJ23_getLongUnaligned 23 = .ok (.lcmp, 1) := dk_148 (dk_at dksJ23_getLongUnaligned_0 23 rfl rfl)
theorem dJ23_getLongUnaligned_24 : decode cJ23_getLongUnaligned 24 = .ok (.ifCond .ne 23, 3) := dk_154 0 23 (dk_at dksJ23_getLongUnaligned_1 0 rfl rfl)
theorem dJ23_getLongUnaligned_27 : decode cJ23_getLongUnaligned 27 = .ok (.aload_n 0, 1) := dk_42 (dk_at dksJ23_getLongUnaligned_1 3 rfl rfl)
theorem dJ23_getLongUnaligned_28 : decode cJ23_getLongUnaligned 28 = .ok (.aload_n 1, 1) := dk_43 (dk_at dksJ23_getLongUnaligned_1 4 rfl rfl)
theorem dJ23_getLongUnaligned_29 : decode cJ23_getLongUnaligned 29 = .ok (.lload_n 2, 1) := dk_32 (dk_at dksJ23_getLongUnaligned_1 5 rfl rfl)
theorem dJ23_getLongUnaligned_30 : decode cJ23_getLongUnaligned 30 = .ok (.invokevirtual 17, 3) := dk_182 0 17 (dk_at dksJ23_getLongUnaligned_1 6 rfl rfl)
theorem dJ23_getLongUnaligned_33 : decode cJ23_getLongUnaligned 33 = .ok (.aload_n 0, 1) := dk_42 (dk_at dksJ23_getLongUnaligned_1 9 rfl rfl)
theorem dJ23_getLongUnaligned_34 : decode cJ23_getLongUnaligned 34 = .ok (.aload_n 1, 1) := dk_43 (dk_at dksJ23_getLongUnaligned_1 10 rfl rfl)
theorem dJ23_getLongUnaligned_35 : decode cJ23_getLongUnaligned 35 = .ok (.lload_n 2, 1) := dk_32 (dk_at dksJ23_getLongUnaligned_1 11 rfl rfl)
theorem dJ23_getLongUnaligned_36 : decode cJ23_getLongUnaligned 36 = .ok (.ldc2_w 205, 3) := dk_20 0 205 (dk_at dksJ23_getLongUnaligned_1 12 rfl rfl)
theorem dJ23_getLongUnaligned_39 : decode cJ23_getLongUnaligned 39 = .ok (.ladd, 1) := dk_97 (dk_at dksJ23_getLongUnaligned_1 15 rfl rfl)
theorem dJ23_getLongUnaligned_40 : decode cJ23_getLongUnaligned 40 = .ok (.invokevirtual 17, 3) := dk_182 0 17 (dk_at dksJ23_getLongUnaligned_1 16 rfl rfl)
theorem dJ23_getLongUnaligned_43 : decode cJ23_getLongUnaligned 43 = .ok (.invokestatic 698, 3) := dk_184 2 186 (dk_at dksJ23_getLongUnaligned_1 19 rfl rfl)
theorem dJ23_getLongUnaligned_46 : decode cJ23_getLongUnaligned 46 = .ok (.lreturn, 1) := dk_173 (dk_at dksJ23_getLongUnaligned_1 22 rfl rfl)
theorem dJ23_getLongUnaligned_47 : decode cJ23_getLongUnaligned 47 = .ok (.lload_n 2, 1) := dk_32 (dk_at dksJ23_getLongUnaligned_1 23 rfl rfl)
theorem dJ23_getLongUnaligned_48 : decode cJ23_getLongUnaligned 48 = .ok (.lconst 1, 1) := dk_10 (dk_at dksJ23_getLongUnaligned_2 0 rfl rfl)
theorem dJ23_getLongUnaligned_49 : decode cJ23_getLongUnaligned 49 = .ok (.land, 1) := dk_127 (dk_at dksJ23_getLongUnaligned_2 1 rfl rfl)
theorem dJ23_getLongUnaligned_50 : decode cJ23_getLongUnaligned 50 = .ok (.lconst 0, 1) := dk_9 (dk_at dksJ23_getLongUnaligned_2 2 rfl rfl)
theorem dJ23_getLongUnaligned_51 : decode cJ23_getLongUnaligned 51 = .ok (.lcmp, 1) := dk_148 (dk_at dksJ23_getLongUnaligned_2 3 rfl rfl)
theorem dJ23_getLongUnaligned_52 : decode cJ23_getLongUnaligned 52 = .ok (.ifCond .ne 43, 3) := dk_154 0 43 (dk_at dksJ23_getLongUnaligned_2 4 rfl rfl)
theorem dJ23_getLongUnaligned_55 : decode cJ23_getLongUnaligned 55 = .ok (.aload_n 0, 1) := dk_42 (dk_at dksJ23_getLongUnaligned_2 7 rfl rfl)
theorem dJ23_getLongUnaligned_56 : decode cJ23_getLongUnaligned 56 = .ok (.aload_n 1, 1) := dk_43 (dk_at dksJ23_getLongUnaligned_2 8 rfl rfl)
theorem dJ23_getLongUnaligned_57 : decode cJ23_getLongUnaligned 57 = .ok (.lload_n 2, 1) := dk_32 (dk_at dksJ23_getLongUnaligned_2 9 rfl rfl)
theorem dJ23_getLongUnaligned_58 : decode cJ23_getLongUnaligned 58 = .ok (.invokevirtual 47, 3) := dk_182 0 47 (dk_at dksJ23_getLongUnaligned_2 10 rfl rfl)
theorem dJ23_getLongUnaligned_61 : decode cJ23_getLongUnaligned 61 = .ok (.aload_n 0, 1) := dk_42 (dk_at dksJ23_getLongUnaligned_2 13 rfl rfl)
theorem dJ23_getLongUnaligned_62 : decode cJ23_getLongUnaligned 62 = .ok (.aload_n 1, 1) := dk_43 (dk_at dksJ23_getLongUnaligned_2 14 rfl rfl)
theorem dJ23_getLongUnaligned_63 : decode cJ23_getLongUnaligned 63 = .ok (.lload_n 2, 1) := dk_32 (dk_at dksJ23_getLongUnaligned_2 15 rfl rfl)
theorem dJ23_getLongUnaligned_64 : decode cJ23_getLongUnaligned 64 = .ok (.ldc2_w 203, 3) := dk_20 0 203 (dk_at dksJ23_getLongUnaligned_2 16 rfl rfl)
theorem dJ23_getLongUnaligned_67 : decode cJ23_getLongUnaligned 67 = .ok (.ladd, 1) := dk_97 (dk_at dksJ23_getLongUnaligned_2 19 rfl rfl)
theorem dJ23_getLongUnaligned_68 : decode cJ23_getLongUnaligned 68 = .ok (.invokevirtual 47, 3) := dk_182 0 47 (dk_at dksJ23_getLongUnaligned_2 20 rfl rfl)
theorem dJ23_getLongUnaligned_71 : decode cJ23_getLongUnaligned 71 = .ok (.aload_n 0, 1) := dk_42 (dk_at dksJ23_getLongUnaligned_2 23 rfl rfl)
theorem dJ23_getLongUnaligned_72 : decode cJ23_getLongUnaligned 72 = .ok (.aload_n 1, 1) := dk_43 (dk_at dksJ23_getLongUnaligned_3 0 rfl rfl)
theorem dJ23_getLongUnaligned_73 : decode cJ23_getLongUnaligned 73 = .ok (.lload_n 2, 1) := dk_32 (dk_at dksJ23_getLongUnaligned_3 1 rfl rfl)
theorem dJ23_getLongUnaligned_74 : decode cJ23_getLongUnaligned 74 = .ok (.ldc2_w 205, 3) := dk_20 0 205 (dk_at dksJ23_getLongUnaligned_3 2 rfl rfl)
theorem dJ23_getLongUnaligned_77 : decode cJ23_getLongUnaligned 77 = .ok (.ladd, 1) := dk_97 (dk_at dksJ23_getLongUnaligned_3 5 rfl rfl)
theorem dJ23_getLongUnaligned_78 : decode cJ23_getLongUnaligned 78 = .ok (.invokevirtual 47, 3) := dk_182 0 47 (dk_at dksJ23_getLongUnaligned_3 6 rfl rfl)
theorem dJ23_getLongUnaligned_81 : decode cJ23_getLongUnaligned 81 = .ok (.aload_n 0, 1) := dk_42 (dk_at dksJ23_getLongUnaligned_3 9 rfl rfl)
theorem dJ23_getLongUnaligned_82 : decode cJ23_getLongUnaligned 82 = .ok (.aload_n 1, 1) := dk_43 (dk_at dksJ23_getLongUnaligned_3 10 rfl rfl)
theorem dJ23_getLongUnaligned_83 : decode cJ23_getLongUnaligned 83 = .ok (.lload_n 2, 1) := dk_32 (dk_at dksJ23_getLongUnaligned_3 11 rfl rfl)
theorem dJ23_getLongUnaligned_84 : decode cJ23_getLongUnaligned 84 = .ok (.ldc2_w 702, 3) := dk_20 2 190 (dk_at dksJ23_getLongUnaligned_3 12 rfl rfl)
theorem dJ23_getLongUnaligned_87 : decode cJ23_getLongUnaligned 87 = .ok (.ladd, 1) := dk_97 (dk_at dksJ23_getLongUnaligned_3 15 rfl rfl)
theorem dJ23_getLongUnaligned_88 : decode cJ23_getLongUnaligned 88 = .ok (.invokevirtual 47, 3) := dk_182 0 47 (dk_at dksJ23_getLongUnaligned_3 16 rfl rfl)
theorem dJ23_getLongUnaligned_91 : decode cJ23_getLongUnaligned 91 = .ok (.invokestatic 704, 3) := dk_184 2 192 (dk_at dksJ23_getLongUnaligned_3 19 rfl rfl)
theorem dJ23_getLongUnaligned_94 : decode cJ23_getLongUnaligned 94 = .ok (.lreturn, 1) := dk_173 (dk_at dksJ23_getLongUnaligned_3 22 rfl rfl)
theorem dJ23_getLongUnaligned_95 : decode cJ23_getLongUnaligned 95 = .ok (.aload_n 0, 1) := dk_42 (dk_at dksJ23_getLongUnaligned_3 23 rfl rfl)
theorem dJ23_getLongUnaligned_96 : decode cJ23_getLongUnaligned 96 = .ok (.aload_n 1, 1) := dk_43 (dk_at dksJ23_getLongUnaligned_4 0 rfl rfl)
theorem dJ23_getLongUnaligned_97 : decode cJ23_getLongUnaligned 97 = .ok (.lload_n 2, 1) := dk_32 (dk_at dksJ23_getLongUnaligned_4 1 rfl rfl)
theorem dJ23_getLongUnaligned_98 : decode cJ23_getLongUnaligned 98 = .ok (.invokevirtual 39, 3) := dk_182 0 39 (dk_at dksJ23_getLongUnaligned_4 2 rfl rfl)
theorem dJ23_getLongUnaligned_101 : decode cJ23_getLongUnaligned 101 = .ok (.aload_n 0, 1) := dk_42 (dk_at dksJ23_getLongUnaligned_4 5 rfl rfl)
theorem dJ23_getLongUnaligned_102 : decode cJ23_getLongUnaligned 102 = .ok (.aload_n 1, 1) := dk_43 (dk_at dksJ23_getLongUnaligned_4 6 rfl rfl)
theorem dJ23_getLongUnaligned_103 : decode cJ23_getLongUnaligned 103 = .ok (.lload_n 2, 1) := dk_32 (dk_at dksJ23_getLongUnaligned_4 7 rfl rfl)
theorem dJ23_getLongUnaligned_104 : decode cJ23_getLongUnaligned 104 = .ok (.lconst 1, 1) := dk_10 (dk_at dksJ23_getLongUnaligned_4 8 rfl rfl)
theorem dJ23_getLongUnaligned_105 : decode cJ23_getLongUnaligned 105 = .ok (.ladd, 1) := dk_97 (dk_at dksJ23_getLongUnaligned_4 9 rfl rfl)
theorem dJ23_getLongUnaligned_106 : decode cJ23_getLongUnaligned 106 = .ok (.invokevirtual 39, 3) := dk_182 0 39 (dk_at dksJ23_getLongUnaligned_4 10 rfl rfl)
theorem dJ23_getLongUnaligned_109 : decode cJ23_getLongUnaligned 109 = .ok (.aload_n 0, 1) := dk_42 (dk_at dksJ23_getLongUnaligned_4 13 rfl rfl)
theorem dJ23_getLongUnaligned_110 : decode cJ23_getLongUnaligned 110 = .ok (.aload_n 1, 1) := dk_43 (dk_at dksJ23_getLongUnaligned_4 14 rfl rfl)
theorem dJ23_getLongUnaligned_111 : decode cJ23_getLongUnaligned 111 = .ok (.lload_n 2, 1) := dk_32 (dk_at dksJ23_getLongUnaligned_4 15 rfl rfl)
theorem dJ23_getLongUnaligned_112 : decode cJ23_getLongUnaligned 112 = .ok (.ldc2_w 203, 3) := dk_20 0 203 (dk_at dksJ23_getLongUnaligned_4 16 rfl rfl)
theorem dJ23_getLongUnaligned_115 : decode cJ23_getLongUnaligned 115 = .ok (.ladd, 1) := dk_97 (dk_at dksJ23_getLongUnaligned_4 19 rfl rfl)
theorem dJ23_getLongUnaligned_116 : decode cJ23_getLongUnaligned 116 = .ok (.invokevirtual 39, 3) := dk_182 0 39 (dk_at dksJ23_getLongUnaligned_4 20 rfl rfl)
theorem dJ23_getLongUnaligned_119 : decode cJ23_getLongUnaligned 119 = .ok (.aload_n 0, 1) := dk_42 (dk_at dksJ23_getLongUnaligned_4 23 rfl rfl)
theorem dJ23_getLongUnaligned_120 : decode cJ23_getLongUnaligned 120 = .ok (.aload_n 1, 1) := dk_43 (dk_at dksJ23_getLongUnaligned_5 0 rfl rfl)
theorem dJ23_getLongUnaligned_121 : decode cJ23_getLongUnaligned 121 = .ok (.lload_n 2, 1) := dk_32 (dk_at dksJ23_getLongUnaligned_5 1 rfl rfl)
theorem dJ23_getLongUnaligned_122 : decode cJ23_getLongUnaligned 122 = .ok (.ldc2_w 349, 3) := dk_20 1 93 (dk_at dksJ23_getLongUnaligned_5 2 rfl rfl)
theorem dJ23_getLongUnaligned_125 : decode cJ23_getLongUnaligned 125 = .ok (.ladd, 1) := dk_97 (dk_at dksJ23_getLongUnaligned_5 5 rfl rfl)
theorem dJ23_getLongUnaligned_126 : decode cJ23_getLongUnaligned 126 = .ok (.invokevirtual 39, 3) := dk_182 0 39 (dk_at dksJ23_getLongUnaligned_5 6 rfl rfl)
theorem dJ23_getLongUnaligned_129 : decode cJ23_getLongUnaligned 129 = .ok (.aload_n 0, 1) := dk_42 (dk_at dksJ23_getLongUnaligned_5 9 rfl rfl)
theorem dJ23_getLongUnaligned_130 : decode cJ23_getLongUnaligned 130 = .ok (.aload_n 1, 1) := dk_43 (dk_at dksJ23_getLongUnaligned_5 10 rfl rfl)
theorem dJ23_getLongUnaligned_131 : decode cJ23_getLongUnaligned 131 = .ok (.lload_n 2, 1) := dk_32 (dk_at dksJ23_getLongUnaligned_5 11 rfl rfl)
theorem dJ23_getLongUnaligned_132 : decode cJ23_getLongUnaligned 132 = .ok (.ldc2_w 205, 3) := dk_20 0 205 (dk_at dksJ23_getLongUnaligned_5 12 rfl rfl)
theorem dJ23_getLongUnaligned_135 : decode cJ23_getLongUnaligned 135 = .ok (.ladd, 1) := dk_97 (dk_at dksJ23_getLongUnaligned_5 15 rfl rfl)
theorem dJ23_getLongUnaligned_136 : decode cJ23_getLongUnaligned 136 = .ok (.invokevirtual 39, 3) := dk_182 0 39 (dk_at dksJ23_getLongUnaligned_5 16 rfl rfl)
theorem dJ23_getLongUnaligned_139 : decode cJ23_getLongUnaligned 139 = .ok (.aload_n 0, 1) := dk_42 (dk_at dksJ23_getLongUnaligned_5 19 rfl rfl)
theorem dJ23_getLongUnaligned_140 : decode cJ23_getLongUnaligned 140 = .ok (.aload_n 1, 1) := dk_43 (dk_at dksJ23_getLongUnaligned_5 20 rfl rfl)
theorem dJ23_getLongUnaligned_141 : decode cJ23_getLongUnaligned 141 = .ok (.lload_n 2, 1) := dk_32 (dk_at dksJ23_getLongUnaligned_5 21 rfl rfl)
theorem dJ23_getLongUnaligned_142 : decode cJ23_getLongUnaligned 142 = .ok (.ldc2_w 707, 3) := dk_20 2 195 (dk_at dksJ23_getLongUnaligned_6 0 rfl rfl)
theorem dJ23_getLongUnaligned_145 : decode cJ23_getLongUnaligned 145 = .ok (.ladd, 1) := dk_97 (dk_at dksJ23_getLongUnaligned_6 3 rfl rfl)
theorem dJ23_getLongUnaligned_146 : decode cJ23_getLongUnaligned 146 = .ok (.invokevirtual 39, 3) := dk_182 0 39 (dk_at dksJ23_getLongUnaligned_6 4 rfl rfl)
theorem dJ23_getLongUnaligned_149 : decode cJ23_getLongUnaligned 149 = .ok (.aload_n 0, 1) := dk_42 (dk_at dksJ23_getLongUnaligned_6 7 rfl rfl)
theorem dJ23_getLongUnaligned_150 : decode cJ23_getLongUnaligned 150 = .ok (.aload_n 1, 1) := dk_43 (dk_at dksJ23_getLongUnaligned_6 8 rfl rfl)
theorem dJ23_getLongUnaligned_151 : decode cJ23_getLongUnaligned 151 = .ok (.lload_n 2, 1) := dk_32 (dk_at dksJ23_getLongUnaligned_6 9 rfl rfl)
theorem dJ23_getLongUnaligned_152 : decode cJ23_getLongUnaligned 152 = .ok (.ldc2_w 702, 3) := dk_20 2 190 (dk_at dksJ23_getLongUnaligned_6 10 rfl rfl)
theorem dJ23_getLongUnaligned_155 : decode cJ23_getLongUnaligned 155 = .ok (.ladd, 1) := dk_97 (dk_at dksJ23_getLongUnaligned_6 13 rfl rfl)
theorem dJ23_getLongUnaligned_156 : decode cJ23_getLongUnaligned 156 = .ok (.invokevirtual 39, 3) := dk_182 0 39 (dk_at dksJ23_getLongUnaligned_6 14 rfl rfl)
theorem dJ23_getLongUnaligned_159 : decode cJ23_getLongUnaligned 159 = .ok (.aload_n 0, 1) := dk_42 (dk_at dksJ23_getLongUnaligned_6 17 rfl rfl)
theorem dJ23_getLongUnaligned_160 : decode cJ23_getLongUnaligned 160 = .ok (.aload_n 1, 1) := dk_43 (dk_at dksJ23_getLongUnaligned_6 18 rfl rfl)
theorem dJ23_getLongUnaligned_161 : decode cJ23_getLongUnaligned 161 = .ok (.lload_n 2, 1) := dk_32 (dk_at dksJ23_getLongUnaligned_6 19 rfl rfl)
theorem dJ23_getLongUnaligned_162 : decode cJ23_getLongUnaligned 162 = .ok (.ldc2_w 696, 3) := dk_20 2 184 (dk_at dksJ23_getLongUnaligned_6 20 rfl rfl)
theorem dJ23_getLongUnaligned_165 : decode cJ23_getLongUnaligned 165 = .ok (.ladd, 1) := dk_97 (dk_at dksJ23_getLongUnaligned_6 23 rfl rfl)
theorem dJ23_getLongUnaligned_166 : decode cJ23_getLongUnaligned 166 = .ok (.invokevirtual 39, 3) := dk_182 0 39 (dk_at dksJ23_getLongUnaligned_7 0 rfl rfl)
theorem dJ23_getLongUnaligned_169 : decode cJ23_getLongUnaligned 169 = .ok (.invokestatic 709, 3) := dk_184 2 197 (dk_at dksJ23_getLongUnaligned_7 3 rfl rfl)
theorem dJ23_getLongUnaligned_172 : decode cJ23_getLongUnaligned 172 = .ok (.lreturn, 1) := dk_173 (dk_at dksJ23_getLongUnaligned_7 6 rfl rfl)
abbrev cJ23_makeLong : ByteArray := prog_62_method_353_code
def yJ23_makeLong : MethodName := ⟨RJ23, "makeLong", "(II)J"⟩
def dkwJ23_makeLong_1 : List UInt8 := [173]
abbrev dktJ23_makeLong_1 : List UInt8 := dkwJ23_makeLong_1 ++ []
def dkwJ23_makeLong_0 : List UInt8 := [26, 184, 3, 23, 16, 32, 3, 184, 3, 16, 121, 27, 184, 3, 23, 16, 32, 16, 32, 184, 3, 16, 121, 129]
abbrev dktJ23_makeLong_0 : List UInt8 := dkwJ23_makeLong_0 ++ dktJ23_makeLong_1
theorem dksJ23_makeLong_0 : cJ23_makeLong.data.toList.drop 0 = dktJ23_makeLong_0 := by decide +kernel
theorem dksJ23_makeLong_1 : cJ23_makeLong.data.toList.drop 24 = dktJ23_makeLong_1 := dk_seg dksJ23_makeLong_0 24 rfl rfl
theorem dJ23_makeLong_0 : decode cJ23_makeLong 0 = .ok (.iload_n 0, 1) := dk_26 (dk_at dksJ23_makeLong_0 0 rfl rfl)
theorem dJ23_makeLong_1 : decode cJ23_makeLong 1 = .ok (.invokestatic 791, 3) := dk_184 3 23 (dk_at dksJ23_makeLong_0 1 rfl rfl)
theorem dJ23_makeLong_4 : decode cJ23_makeLong 4 = .ok (.bipush 32, 2) := dk_16 32 (dk_at dksJ23_makeLong_0 4 rfl rfl)
theorem dJ23_makeLong_6 : decode cJ23_makeLong 6 = .ok (.iconst 0, 1) := dk_3 (dk_at dksJ23_makeLong_0 6 rfl rfl)
theorem dJ23_makeLong_7 : decode cJ23_makeLong 7 = .ok (.invokestatic 784, 3) := dk_184 3 16 (dk_at dksJ23_makeLong_0 7 rfl rfl)
theorem dJ23_makeLong_10 : decode cJ23_makeLong 10 = .ok (.lshl, 1) := dk_121 (dk_at dksJ23_makeLong_0 10 rfl rfl)
theorem dJ23_makeLong_11 : decode cJ23_makeLong 11 = .ok (.iload_n 1, 1) := dk_27 (dk_at dksJ23_makeLong_0 11 rfl rfl)
theorem dJ23_makeLong_12 : decode cJ23_makeLong 12 = .ok (.invokestatic 791, 3) := dk_184 3 23 (dk_at dksJ23_makeLong_0 12 rfl rfl)
theorem dJ23_makeLong_15 : decode cJ23_makeLong 15 = .ok (.bipush 32, 2) := dk_16 32 (dk_at dksJ23_makeLong_0 15 rfl rfl)
theorem dJ23_makeLong_17 : decode cJ23_makeLong 17 = .ok (.bipush 32, 2) := dk_16 32 (dk_at dksJ23_makeLong_0 17 rfl rfl)
theorem dJ23_makeLong_19 : decode cJ23_makeLong 19 = .ok (.invokestatic 784, 3) := dk_184 3 16 (dk_at dksJ23_makeLong_0 19 rfl rfl)
theorem dJ23_makeLong_22 : decode cJ23_makeLong 22 = .ok (.lshl, 1) := dk_121 (dk_at dksJ23_makeLong_0 22 rfl rfl)
theorem dJ23_makeLong_23 : decode cJ23_makeLong 23 = .ok (.lor, 1) := dk_129 (dk_at dksJ23_makeLong_0 23 rfl rfl)
theorem dJ23_makeLong_24 : decode cJ23_makeLong 24 = .ok (.lreturn, 1) := dk_173 (dk_at dksJ23_makeLong_1 0 rfl rfl)
abbrev cJ23_toUnsignedLong : ByteArray := prog_62_method_370_code
def yJ23_toUnsignedLong : MethodName := ⟨RJ23, "toUnsignedLong", "(I)J"⟩
def dkwJ23_toUnsignedLong_0 : List UInt8 := [26, 133, 20, 3, 44, 127, 173]
abbrev dktJ23_toUnsignedLong_0 : List UInt8 := dkwJ23_toUnsignedLong_0 ++ []
theorem dksJ23_toUnsignedLong_0 : cJ23_toUnsignedLong.data.toList.drop 0 = dktJ23_toUnsignedLong_0 := by decide +kernel
theorem dJ23_toUnsignedLong_0 : decode cJ23_toUnsignedLong 0 = .ok (.iload_n 0, 1) := dk_26 (dk_at dksJ23_toUnsignedLong_0 0 rfl rfl)
theorem dJ23_toUnsignedLong_1 : decode cJ23_toUnsignedLong 1 = .ok (.i2l, 1) := dk_133 (dk_at dksJ23_toUnsignedLong_0 1 rfl rfl)
theorem dJ23_toUnsignedLong_2 : decode cJ23_toUnsignedLong 2 = .ok (.ldc2_w 812, 3) := dk_20 3 44 (dk_at dksJ23_toUnsignedLong_0 2 rfl rfl)
theorem dJ23_toUnsignedLong_5 : decode cJ23_toUnsignedLong 5 = .ok (.land, 1) := dk_127 (dk_at dksJ23_toUnsignedLong_0 5 rfl rfl)
theorem dJ23_toUnsignedLong_6 : decode cJ23_toUnsignedLong 6 = .ok (.lreturn, 1) := dk_173 (dk_at dksJ23_toUnsignedLong_0 6 rfl rfl)
abbrev cJ23_pickPos : ByteArray := prog_62_method_350_code
def yJ23_pickPos : MethodName := ⟨RJ23, "pickPos", "(II)I"⟩
def dkwJ23_pickPos_0 : List UInt8 := [178, 1, 95, 153, 0, 9, 26, 27, 100, 167, 0, 4, 27, 172]
abbrev dktJ23_pickPos_0 : List UInt8 := dkwJ23_pickPos_0 ++ []
theorem dksJ23_pickPos_0 : cJ23_pickPos.data.toList.drop 0 = dktJ23_pickPos_0 := by decide +kernel
theorem dJ23_pickPos_0 : decode cJ23_pickPos 0 = .ok (.getstatic 351, 3) := dk_178 1 95 (dk_at dksJ23_pickPos_0 0 rfl rfl)
theorem dJ23_pickPos_3 : decode cJ23_pickPos 3 = .ok (.ifCond .eq 9, 3) := dk_153 0 9 (dk_at dksJ23_pickPos_0 3 rfl rfl)
theorem dJ23_pickPos_6 : decode cJ23_pickPos 6 = .ok (.iload_n 0, 1) := dk_26 (dk_at dksJ23_pickPos_0 6 rfl rfl)
theorem dJ23_pickPos_7 : decode cJ23_pickPos 7 = .ok (.iload_n 1, 1) := dk_27 (dk_at dksJ23_pickPos_0 7 rfl rfl)
theorem dJ23_pickPos_8 : decode cJ23_pickPos 8 = .ok (.isub, 1) := dk_100 (dk_at dksJ23_pickPos_0 8 rfl rfl)
theorem dJ23_pickPos_9 : decode cJ23_pickPos 9 = .ok (.goto 4, 3) := dk_167 0 4 (dk_at dksJ23_pickPos_0 9 rfl rfl)
theorem dJ23_pickPos_12 : decode cJ23_pickPos 12 = .ok (.iload_n 1, 1) := dk_27 (dk_at dksJ23_pickPos_0 12 rfl rfl)
theorem dJ23_pickPos_13 : decode cJ23_pickPos 13 = .ok (.ireturn, 1) := dk_172 (dk_at dksJ23_pickPos_0 13 rfl rfl)
abbrev cJ23_makeLong_2 : ByteArray := prog_62_method_352_code
def yJ23_makeLong_2 : MethodName := ⟨RJ23, "makeLong", "(SSSS)J"⟩
def dkwJ23_makeLong_2_2 : List UInt8 := [121, 129, 173]
abbrev dktJ23_makeLong_2_2 : List UInt8 := dkwJ23_makeLong_2_2 ++ []
def dkwJ23_makeLong_2_1 : List UInt8 := [28, 184, 3, 20, 16, 48, 16, 32, 184, 3, 16, 121, 129, 29, 184, 3, 20, 16, 48, 16, 48, 184, 3, 16]
abbrev dktJ23_makeLong_2_1 : List UInt8 := dkwJ23_makeLong_2_1 ++ dktJ23_makeLong_2_2
def dkwJ23_makeLong_2_0 : List UInt8 := [26, 184, 3, 20, 16, 48, 3, 184, 3, 16, 121, 27, 184, 3, 20, 16, 48, 16, 16, 184, 3, 16, 121, 129]
abbrev dktJ23_makeLong_2_0 : List UInt8 := dkwJ23_makeLong_2_0 ++ dktJ23_makeLong_2_1
theorem dksJ23_makeLong_2_0 : cJ23_makeLong_2.data.toList.drop 0 = dktJ23_makeLong_2_0 := by decide +kernel
theorem dksJ23_makeLong_2_1 : cJ23_makeLong_2.data.toList.drop 24 = dktJ23_makeLong_2_1 := dk_seg dksJ23_makeLong_2_0 24 rfl rfl
theorem dksJ23_makeLong_2_2 : cJ23_makeLong_2.data.toList.drop 48 = dktJ23_makeLong_2_2 := dk_seg dksJ23_makeLong_2_1 24 rfl rfl
theorem dJ23_makeLong_2_0 : decode cJ23_makeLong_2 0 = .ok (.iload_n 0, 1) := dk_26 (dk_at dksJ23_makeLong_2_0 0 rfl rfl)
theorem dJ23_makeLong_2_1 : decode cJ23_makeLong_2 1 = .ok (.invokestatic 788, 3) := dk_184 3 20 (dk_at dksJ23_makeLong_2_0 1 rfl rfl)
theorem dJ23_makeLong_2_4 : decode cJ23_makeLong_2 4 = .ok (.bipush 48, 2) := dk_16 48 (dk_at dksJ23_makeLong_2_0 4 rfl rfl)
theorem dJ23_makeLong_2_6 : decode cJ23_makeLong_2 6 = .ok (.iconst 0, 1) := dk_3 (dk_at dksJ23_makeLong_2_0 6 rfl rfl)
theorem dJ23_makeLong_2_7 : decode cJ23_makeLong_2 7 = .ok (.invokestatic 784, 3) := dk_184 3 16 (dk_at dksJ23_makeLong_2_0 7 rfl rfl)
theorem dJ23_makeLong_2_10 : decode cJ23_makeLong_2 10 = .ok (.lshl, 1) := dk_121 (dk_at dksJ23_makeLong_2_0 10 rfl rfl)
theorem dJ23_makeLong_2_11 : decode cJ23_makeLong_2 11 = .ok (.iload_n 1, 1) := dk_27 (dk_at dksJ23_makeLong_2_0 11 rfl rfl)
theorem dJ23_makeLong_2_12 : decode cJ23_makeLong_2 12 = .ok (.invokestatic 788, 3) := dk_184 3 20 (dk_at dksJ23_makeLong_2_0 12 rfl rfl)
theorem dJ23_makeLong_2_15 : decode cJ23_makeLong_2 15 = .ok (.bipush 48, 2) := dk_16 48 (dk_at dksJ23_makeLong_2_0 15 rfl rfl)
theorem dJ23_makeLong_2_17 : decode cJ23_makeLong_2 17 = .ok (.bipush 16, 2) := dk_16 16 (dk_at dksJ23_makeLong_2_0 17 rfl rfl)
theorem dJ23_makeLong_2_19 : decode cJ23_makeLong_2 19 = .ok (.invokestatic 784, 3) := dk_184 3 16 (dk_at dksJ23_makeLong_2_0 19 rfl rfl)
theorem dJ23_makeLong_2_22 : decode cJ23_makeLong_2 22 = .ok (.lshl, 1) := dk_121 (dk_at dksJ23_makeLong_2_0 22 rfl rfl)
theorem dJ23_makeLong_2_23 : decode cJ23_makeLong_2 23 = .ok (.lor, 1) := dk_129 (dk_at dksJ23_makeLong_2_0 23 rfl rfl)
theorem dJ23_makeLong_2_24 : decode cJ23_makeLong_2 24 = .ok (.iload_n 2, 1) := dk_28 (dk_at dksJ23_makeLong_2_1 0 rfl rfl)
theorem dJ23_makeLong_2_25 : decode cJ23_makeLong_2 25 = .ok (.invokestatic 788, 3) := dk_184 3 20 (dk_at dksJ23_makeLong_2_1 1 rfl rfl)
theorem dJ23_makeLong_2_28 : decode cJ23_makeLong_2 28 = .ok (.bipush 48, 2) := dk_16 48 (dk_at dksJ23_makeLong_2_1 4 rfl rfl)
theorem dJ23_makeLong_2_30 : decode cJ23_makeLong_2 30 = .ok (.bipush 32, 2) := dk_16 32 (dk_at dksJ23_makeLong_2_1 6 rfl rfl)
theorem dJ23_makeLong_2_32 : decode cJ23_makeLong_2 32 = .ok (.invokestatic 784, 3) := dk_184 3 16 (dk_at dksJ23_makeLong_2_1 8 rfl rfl)
theorem dJ23_makeLong_2_35 : decode cJ23_makeLong_2 35 = .ok (.lshl, 1) := dk_121 (dk_at dksJ23_makeLong_2_1 11 rfl rfl)
theorem dJ23_makeLong_2_36 : decode cJ23_makeLong_2 36 = .ok (.lor, 1) := dk_129 (dk_at dksJ23_makeLong_2_1 12 rfl rfl)
theorem dJ23_makeLong_2_37 : decode cJ23_makeLong_2 37 = .ok (.iload_n 3, 1) := dk_29 (dk_at dksJ23_makeLong_2_1 13 rfl rfl)
theorem dJ23_makeLong_2_38 : decode cJ23_makeLong_2 38 = .ok (.invokestatic 788, 3) := dk_184 3 20 (dk_at dksJ23_makeLong_2_1 14 rfl rfl)
theorem dJ23_makeLong_2_41 : decode cJ23_makeLong_2 41 = .ok (.bipush 48, 2) := dk_16 48 (dk_at dksJ23_makeLong_2_1 17 rfl rfl)
theorem dJ23_makeLong_2_43 : decode cJ23_makeLong_2 43 = .ok (.bipush 48, 2) := dk_16 48 (dk_at dksJ23_makeLong_2_1 19 rfl rfl)
theorem dJ23_makeLong_2_45 : decode cJ23_makeLong_2 45 = .ok (.invokestatic 784, 3) := dk_184 3 16 (dk_at dksJ23_makeLong_2_1 21 rfl rfl)
theorem dJ23_makeLong_2_48 : decode cJ23_makeLong_2 48 = .ok (.lshl, 1) := dk_121 (dk_at dksJ23_makeLong_2_2 0 rfl rfl)
theorem dJ23_makeLong_2_49 : decode cJ23_makeLong_2 49 = .ok (.lor, 1) := dk_129 (dk_at dksJ23_makeLong_2_2 1 rfl rfl)
theorem dJ23_makeLong_2_50 : decode cJ23_makeLong_2 50 = .ok (.lreturn, 1) := dk_173 (dk_at dksJ23_makeLong_2_2 2 rfl rfl)
abbrev cJ23_toUnsignedLong_2 : ByteArray := prog_62_method_369_code
def yJ23_toUnsignedLong_2 : MethodName := ⟨RJ23, "toUnsignedLong", "(S)J"⟩
def dkwJ23_toUnsignedLong_2_0 : List UInt8 := [26, 133, 20, 3, 42, 127, 173]
abbrev dktJ23_toUnsignedLong_2_0 : List UInt8 := dkwJ23_toUnsignedLong_2_0 ++ []
theorem dksJ23_toUnsignedLong_2_0 : cJ23_toUnsignedLong_2.data.toList.drop 0 = dktJ23_toUnsignedLong_2_0 := by decide +kernel
theorem dJ23_toUnsignedLong_2_0 : decode cJ23_toUnsignedLong_2 0 = .ok (.iload_n 0, 1) := dk_26 (dk_at dksJ23_toUnsignedLong_2_0 0 rfl rfl)
theorem dJ23_toUnsignedLong_2_1 : decode cJ23_toUnsignedLong_2 1 = .ok (.i2l, 1) := dk_133 (dk_at dksJ23_toUnsignedLong_2_0 1 rfl rfl)
theorem dJ23_toUnsignedLong_2_2 : decode cJ23_toUnsignedLong_2 2 = .ok (.ldc2_w 810, 3) := dk_20 3 42 (dk_at dksJ23_toUnsignedLong_2_0 2 rfl rfl)
theorem dJ23_toUnsignedLong_2_5 : decode cJ23_toUnsignedLong_2 5 = .ok (.land, 1) := dk_127 (dk_at dksJ23_toUnsignedLong_2_0 5 rfl rfl)
theorem dJ23_toUnsignedLong_2_6 : decode cJ23_toUnsignedLong_2 6 = .ok (.lreturn, 1) := dk_173 (dk_at dksJ23_toUnsignedLong_2_0 6 rfl rfl)
abbrev cJ23_makeLong_3 : ByteArray := prog_62_method_351_code
def yJ23_makeLong_3 : MethodName := ⟨RJ23, "makeLong", "(BBBBBBBB)J"⟩
def dkwJ23_makeLong_3_4 : List UInt8 := [184, 3, 13, 16, 56, 16, 56, 184, 3, 16, 121, 129, 173]
abbrev dktJ23_makeLong_3_4 : List UInt8 := dkwJ23_makeLong_3_4 ++ []
def dkwJ23_makeLong_3_3 : List UInt8 := [16, 40, 184, 3, 16, 121, 129, 21, 6, 184, 3, 13, 16, 56, 16, 48, 184, 3, 16, 121, 129, 21, 7]
abbrev dktJ23_makeLong_3_3 : List UInt8 := dkwJ23_makeLong_3_3 ++ dktJ23_makeLong_3_4
def dkwJ23_makeLong_3_2 : List UInt8 := [121, 129, 21, 4, 184, 3, 13, 16, 56, 16, 32, 184, 3, 16, 121, 129, 21, 5, 184, 3, 13, 16, 56]
abbrev dktJ23_makeLong_3_2 : List UInt8 := dkwJ23_makeLong_3_2 ++ dktJ23_makeLong_3_3
def dkwJ23_makeLong_3_1 : List UInt8 := [28, 184, 3, 13, 16, 56, 16, 16, 184, 3, 16, 121, 129, 29, 184, 3, 13, 16, 56, 16, 24, 184, 3, 16]
abbrev dktJ23_makeLong_3_1 : List UInt8 := dkwJ23_makeLong_3_1 ++ dktJ23_makeLong_3_2
def dkwJ23_makeLong_3_0 : List UInt8 := [26, 184, 3, 13, 16, 56, 3, 184, 3, 16, 121, 27, 184, 3, 13, 16, 56, 16, 8, 184, 3, 16, 121, 129]
abbrev dktJ23_makeLong_3_0 : List UInt8 := dkwJ23_makeLong_3_0 ++ dktJ23_makeLong_3_1
theorem dksJ23_makeLong_3_0 : cJ23_makeLong_3.data.toList.drop 0 = dktJ23_makeLong_3_0 := by decide +kernel
theorem dksJ23_makeLong_3_1 : cJ23_makeLong_3.data.toList.drop 24 = dktJ23_makeLong_3_1 := dk_seg dksJ23_makeLong_3_0 24 rfl rfl
theorem dksJ23_makeLong_3_2 : cJ23_makeLong_3.data.toList.drop 48 = dktJ23_makeLong_3_2 := dk_seg dksJ23_makeLong_3_1 24 rfl rfl
theorem dksJ23_makeLong_3_3 : cJ23_makeLong_3.data.toList.drop 71 = dktJ23_makeLong_3_3 := dk_seg dksJ23_makeLong_3_2 23 rfl rfl
theorem dksJ23_makeLong_3_4 : cJ23_makeLong_3.data.toList.drop 94 = dktJ23_makeLong_3_4 := dk_seg dksJ23_makeLong_3_3 23 rfl rfl
theorem dJ23_makeLong_3_0 : decode cJ23_makeLong_3 0 = .ok (.iload_n 0, 1) := dk_26 (dk_at dksJ23_makeLong_3_0 0 rfl rfl)
theorem dJ23_makeLong_3_1 : decode cJ23_makeLong_3 1 = .ok (.invokestatic 781, 3) := dk_184 3 13 (dk_at dksJ23_makeLong_3_0 1 rfl rfl)
theorem dJ23_makeLong_3_4 : decode cJ23_makeLong_3 4 = .ok (.bipush 56, 2) := dk_16 56 (dk_at dksJ23_makeLong_3_0 4 rfl rfl)
theorem dJ23_makeLong_3_6 : decode cJ23_makeLong_3 6 = .ok (.iconst 0, 1) := dk_3 (dk_at dksJ23_makeLong_3_0 6 rfl rfl)
theorem dJ23_makeLong_3_7 : decode cJ23_makeLong_3 7 = .ok (.invokestatic 784, 3) := dk_184 3 16 (dk_at dksJ23_makeLong_3_0 7 rfl rfl)
theorem dJ23_makeLong_3_10 : decode cJ23_makeLong_3 10 = .ok (.lshl, 1) := dk_121 (dk_at dksJ23_makeLong_3_0 10 rfl rfl)
theorem dJ23_makeLong_3_11 : decode cJ23_makeLong_3 11 = .ok (.iload_n 1, 1) := dk_27 (dk_at dksJ23_makeLong_3_0 11 rfl rfl)
theorem dJ23_makeLong_3_12 : decode cJ23_makeLong_3 12 = .ok (.invokestatic 781, 3) := dk_184 3 13 (dk_at dksJ23_makeLong_3_0 12 rfl rfl)
theorem dJ23_makeLong_3_15 : decode cJ23_makeLong_3 15 = .ok (.bipush 56, 2) := dk_16 56 (dk_at dksJ23_makeLong_3_0 15 rfl rfl)
theorem dJ23_makeLong_3_17 : decode cJ23_makeLong_3 17 = .ok (.bipush 8, 2) := dk_16 8 (dk_at dksJ23_makeLong_3_0 17 rfl rfl)
theorem dJ23_makeLong_3_19 : decode cJ23_makeLong_3 19 = .ok (.invokestatic 784, 3) := dk_184 3 16 (dk_at dksJ23_makeLong_3_0 19 rfl rfl)
theorem dJ23_makeLong_3_22 : decode cJ23_makeLong_3 22 = .ok (.lshl, 1) := dk_121 (dk_at dksJ23_makeLong_3_0 22 rfl rfl)
theorem dJ23_makeLong_3_23 : decode cJ23_makeLong_3 23 = .ok (.lor, 1) := dk_129 (dk_at dksJ23_makeLong_3_0 23 rfl rfl)
theorem dJ23_makeLong_3_24 : decode cJ23_makeLong_3 24 = .ok (.iload_n 2, 1) := dk_28 (dk_at dksJ23_makeLong_3_1 0 rfl rfl)
theorem dJ23_makeLong_3_25 : decode cJ23_makeLong_3 25 = .ok (.invokestatic 781, 3) := dk_184 3 13 (dk_at dksJ23_makeLong_3_1 1 rfl rfl)
theorem dJ23_makeLong_3_28 : decode cJ23_makeLong_3 28 = .ok (.bipush 56, 2) := dk_16 56 (dk_at dksJ23_makeLong_3_1 4 rfl rfl)
theorem dJ23_makeLong_3_30 : decode cJ23_makeLong_3 30 = .ok (.bipush 16, 2) := dk_16 16 (dk_at dksJ23_makeLong_3_1 6 rfl rfl)
theorem dJ23_makeLong_3_32 : decode cJ23_makeLong_3 32 = .ok (.invokestatic 784, 3) := dk_184 3 16 (dk_at dksJ23_makeLong_3_1 8 rfl rfl)
theorem dJ23_makeLong_3_35 : decode cJ23_makeLong_3 35 = .ok (.lshl, 1) := dk_121 (dk_at dksJ23_makeLong_3_1 11 rfl rfl)
theorem dJ23_makeLong_3_36 : decode cJ23_makeLong_3 36 = .ok (.lor, 1) := dk_129 (dk_at dksJ23_makeLong_3_1 12 rfl rfl)
theorem dJ23_makeLong_3_37 : decode cJ23_makeLong_3 37 = .ok (.iload_n 3, 1) := dk_29 (dk_at dksJ23_makeLong_3_1 13 rfl rfl)
theorem dJ23_makeLong_3_38 : decode cJ23_makeLong_3 38 = .ok (.invokestatic 781, 3) := dk_184 3 13 (dk_at dksJ23_makeLong_3_1 14 rfl rfl)
theorem dJ23_makeLong_3_41 : decode cJ23_makeLong_3 41 = .ok (.bipush 56, 2) := dk_16 56 (dk_at dksJ23_makeLong_3_1 17 rfl rfl)
theorem dJ23_makeLong_3_43 : decode cJ23_makeLong_3 43 = .ok (.bipush 24, 2) := dk_16 24 (dk_at dksJ23_makeLong_3_1 19 rfl rfl)
theorem dJ23_makeLong_3_45 : decode cJ23_makeLong_3 45 = .ok (.invokestatic 784, 3) := dk_184 3 16 (dk_at dksJ23_makeLong_3_1 21 rfl rfl)
theorem dJ23_makeLong_3_48 : decode cJ23_makeLong_3 48 = .ok (.lshl, 1) := dk_121 (dk_at dksJ23_makeLong_3_2 0 rfl rfl)
theorem dJ23_makeLong_3_49 : decode cJ23_makeLong_3 49 = .ok (.lor, 1) := dk_129 (dk_at dksJ23_makeLong_3_2 1 rfl rfl)
theorem dJ23_makeLong_3_50 : decode cJ23_makeLong_3 50 = .ok (.iload 4, 2) := dk_21 4 (dk_at dksJ23_makeLong_3_2 2 rfl rfl)
theorem dJ23_makeLong_3_52 : decode cJ23_makeLong_3 52 = .ok (.invokestatic 781, 3) := dk_184 3 13 (dk_at dksJ23_makeLong_3_2 4 rfl rfl)
theorem dJ23_makeLong_3_55 : decode cJ23_makeLong_3 55 = .ok (.bipush 56, 2) := dk_16 56 (dk_at dksJ23_makeLong_3_2 7 rfl rfl)
theorem dJ23_makeLong_3_57 : decode cJ23_makeLong_3 57 = .ok (.bipush 32, 2) := dk_16 32 (dk_at dksJ23_makeLong_3_2 9 rfl rfl)
theorem dJ23_makeLong_3_59 : decode cJ23_makeLong_3 59 = .ok (.invokestatic 784, 3) := dk_184 3 16 (dk_at dksJ23_makeLong_3_2 11 rfl rfl)
theorem dJ23_makeLong_3_62 : decode cJ23_makeLong_3 62 = .ok (.lshl, 1) := dk_121 (dk_at dksJ23_makeLong_3_2 14 rfl rfl)
theorem dJ23_makeLong_3_63 : decode cJ23_makeLong_3 63 = .ok (.lor, 1) := dk_129 (dk_at dksJ23_makeLong_3_2 15 rfl rfl)
theorem dJ23_makeLong_3_64 : decode cJ23_makeLong_3 64 = .ok (.iload 5, 2) := dk_21 5 (dk_at dksJ23_makeLong_3_2 16 rfl rfl)
theorem dJ23_makeLong_3_66 : decode cJ23_makeLong_3 66 = .ok (.invokestatic 781, 3) := dk_184 3 13 (dk_at dksJ23_makeLong_3_2 18 rfl rfl)
theorem dJ23_makeLong_3_69 : decode cJ23_makeLong_3 69 = .ok (.bipush 56, 2) := dk_16 56 (dk_at dksJ23_makeLong_3_2 21 rfl rfl)
theorem dJ23_makeLong_3_71 : decode cJ23_makeLong_3 71 = .ok (.bipush 40, 2) := dk_16 40 (dk_at dksJ23_makeLong_3_3 0 rfl rfl)
theorem dJ23_makeLong_3_73 : decode cJ23_makeLong_3 73 = .ok (.invokestatic 784, 3) := dk_184 3 16 (dk_at dksJ23_makeLong_3_3 2 rfl rfl)
theorem dJ23_makeLong_3_76 : decode cJ23_makeLong_3 76 = .ok (.lshl, 1) := dk_121 (dk_at dksJ23_makeLong_3_3 5 rfl rfl)
theorem dJ23_makeLong_3_77 : decode cJ23_makeLong_3 77 = .ok (.lor, 1) := dk_129 (dk_at dksJ23_makeLong_3_3 6 rfl rfl)
theorem dJ23_makeLong_3_78 : decode cJ23_makeLong_3 78 = .ok (.iload 6, 2) := dk_21 6 (dk_at dksJ23_makeLong_3_3 7 rfl rfl)
theorem dJ23_makeLong_3_80 : decode cJ23_makeLong_3 80 = .ok (.invokestatic 781, 3) := dk_184 3 13 (dk_at dksJ23_makeLong_3_3 9 rfl rfl)
theorem dJ23_makeLong_3_83 : decode cJ23_makeLong_3 83 = .ok (.bipush 56, 2) := dk_16 56 (dk_at dksJ23_makeLong_3_3 12 rfl rfl)
theorem dJ23_makeLong_3_85 : decode cJ23_makeLong_3 85 = .ok (.bipush 48, 2) := dk_16 48 (dk_at dksJ23_makeLong_3_3 14 rfl rfl)
theorem dJ23_makeLong_3_87 : decode cJ23_makeLong_3 87 = .ok (.invokestatic 784, 3) := dk_184 3 16 (dk_at dksJ23_makeLong_3_3 16 rfl rfl)
theorem dJ23_makeLong_3_90 : decode cJ23_makeLong_3 90 = .ok (.lshl, 1) := dk_121 (dk_at dksJ23_makeLong_3_3 19 rfl rfl)
theorem dJ23_makeLong_3_91 : decode cJ23_makeLong_3 91 = .ok (.lor, 1) := dk_129 (dk_at dksJ23_makeLong_3_3 20 rfl rfl)
theorem dJ23_makeLong_3_92 : decode cJ23_makeLong_3 92 = .ok (.iload 7, 2) := dk_21 7 (dk_at dksJ23_makeLong_3_3 21 rfl rfl)
theorem dJ23_makeLong_3_94 : decode cJ23_makeLong_3 94 = .ok (.invokestatic 781, 3) := dk_184 3 13 (dk_at dksJ23_makeLong_3_4 0 rfl rfl)
theorem dJ23_makeLong_3_97 : decode cJ23_makeLong_3 97 = .ok (.bipush 56, 2) := dk_16 56 (dk_at dksJ23_makeLong_3_4 3 rfl rfl)
theorem dJ23_makeLong_3_99 : decode cJ23_makeLong_3 99 = .ok (.bipush 56, 2) := dk_16 56 (dk_at dksJ23_makeLong_3_4 5 rfl rfl)
theorem dJ23_makeLong_3_101 : decode cJ23_makeLong_3 101 = .ok (.invokestatic 784, 3) := dk_184 3 16 (dk_at dksJ23_makeLong_3_4 7 rfl rfl)
theorem dJ23_makeLong_3_104 : decode cJ23_makeLong_3 104 = .ok (.lshl, 1) := dk_121 (dk_at dksJ23_makeLong_3_4 10 rfl rfl)
theorem dJ23_makeLong_3_105 : decode cJ23_makeLong_3 105 = .ok (.lor, 1) := dk_129 (dk_at dksJ23_makeLong_3_4 11 rfl rfl)
theorem dJ23_makeLong_3_106 : decode cJ23_makeLong_3 106 = .ok (.lreturn, 1) := dk_173 (dk_at dksJ23_makeLong_3_4 12 rfl rfl)
abbrev cJ23_toUnsignedLong_3 : ByteArray := prog_62_method_368_code
def yJ23_toUnsignedLong_3 : MethodName := ⟨RJ23, "toUnsignedLong", "(B)J"⟩
def dkwJ23_toUnsignedLong_3_0 : List UInt8 := [26, 133, 20, 3, 40, 127, 173]
abbrev dktJ23_toUnsignedLong_3_0 : List UInt8 := dkwJ23_toUnsignedLong_3_0 ++ []
theorem dksJ23_toUnsignedLong_3_0 : cJ23_toUnsignedLong_3.data.toList.drop 0 = dktJ23_toUnsignedLong_3_0 := by decide +kernel
theorem dJ23_toUnsignedLong_3_0 : decode cJ23_toUnsignedLong_3 0 = .ok (.iload_n 0, 1) := dk_26 (dk_at dksJ23_toUnsignedLong_3_0 0 rfl rfl)
theorem dJ23_toUnsignedLong_3_1 : decode cJ23_toUnsignedLong_3 1 = .ok (.i2l, 1) := dk_133 (dk_at dksJ23_toUnsignedLong_3_0 1 rfl rfl)
theorem dJ23_toUnsignedLong_3_2 : decode cJ23_toUnsignedLong_3 2 = .ok (.ldc2_w 808, 3) := dk_20 3 40 (dk_at dksJ23_toUnsignedLong_3_0 2 rfl rfl)
theorem dJ23_toUnsignedLong_3_5 : decode cJ23_toUnsignedLong_3 5 = .ok (.land, 1) := dk_127 (dk_at dksJ23_toUnsignedLong_3_0 5 rfl rfl)
theorem dJ23_toUnsignedLong_3_6 : decode cJ23_toUnsignedLong_3 6 = .ok (.lreturn, 1) := dk_173 (dk_at dksJ23_toUnsignedLong_3_0 6 rfl rfl)
abbrev cJ23_getIntUnaligned : ByteArray := prog_62_method_336_code
def yJ23_getIntUnaligned : MethodName := ⟨RJ23, "getIntUnaligned", "(Ljava/lang/Object;J)I"⟩
def dkwJ23_getIntUnaligned_3 : List UInt8 := [43, 32, 20, 1, 93, 97, 182, 0, 39, 184, 2, 211, 172]
abbrev dktJ23_getIntUnaligned_3 : List UInt8 := dkwJ23_getIntUnaligned_3 ++ []
def dkwJ23_getIntUnaligned_2 : List UInt8 := [43, 32, 182, 0, 39, 42, 43, 32, 10, 97, 182, 0, 39, 42, 43, 32, 20, 0, 203, 97, 182, 0, 39, 42]
abbrev dktJ23_getIntUnaligned_2 : List UInt8 := dkwJ23_getIntUnaligned_2 ++ dktJ23_getIntUnaligned_3
def dkwJ23_getIntUnaligned_1 : List UInt8 := [154, 0, 23, 42, 43, 32, 182, 0, 47, 42, 43, 32, 20, 0, 203, 97, 182, 0, 47, 184, 2, 207, 172, 42]
abbrev dktJ23_getIntUnaligned_1 : List UInt8 := dkwJ23_getIntUnaligned_1 ++ dktJ23_getIntUnaligned_2
def dkwJ23_getIntUnaligned_0 : List UInt8 := [32, 20, 1, 93, 127, 9, 148, 154, 0, 10, 42, 43, 32, 182, 0, 17, 172, 32, 10, 127, 9, 148]
abbrev dktJ23_getIntUnaligned_0 : List UInt8 := dkwJ23_getIntUnaligned_0 ++ dktJ23_getIntUnaligned_1
theorem dksJ23_getIntUnaligned_0 : cJ23_getIntUnaligned.data.toList.drop 0 = dktJ23_getIntUnaligned_0 := by decide +kernel
theorem dksJ23_getIntUnaligned_1 : cJ23_getIntUnaligned.data.toList.drop 22 = dktJ23_getIntUnaligned_1 := dk_seg dksJ23_getIntUnaligned_0 22 rfl rfl
theorem dksJ23_getIntUnaligned_2 : cJ23_getIntUnaligned.data.toList.drop 46 = dktJ23_getIntUnaligned_2 := dk_seg dksJ23_getIntUnaligned_1 24 rfl rfl
theorem dksJ23_getIntUnaligned_3 : cJ23_getIntUnaligned.data.toList.drop 70 = dktJ23_getIntUnaligned_3 := dk_seg dksJ23_getIntUnaligned_2 24 rfl rfl
theorem dJ23_getIntUnaligned_0 : decode cJ23_getIntUnaligned 0 = .ok (.lload_n 2, 1) := dk_32 (dk_at dksJ23_getIntUnaligned_0 0 rfl rfl)
theorem dJ23_getIntUnaligned_1 : decode cJ23_getIntUnaligned 1 = .ok (.ldc2_w 349, 3) := dk_20 1 93 (dk_at dksJ23_getIntUnaligned_0 1 rfl rfl)
theorem dJ23_getIntUnaligned_4 : decode cJ23_getIntUnaligned 4 = .ok (.land, 1) := dk_127 (dk_at dksJ23_getIntUnaligned_0 4 rfl rfl)
theorem dJ23_getIntUnaligned_5 : decode cJ23_getIntUnaligned 5 = .ok (.lconst 0, 1) := dk_9 (dk_at dksJ23_getIntUnaligned_0 5 rfl rfl)
theorem dJ23_getIntUnaligned_6 : decode cJ23_getIntUnaligned 6 = .ok (.lcmp, 1) := dk_148 (dk_at dksJ23_getIntUnaligned_0 6 rfl rfl)
theorem dJ23_getIntUnaligned_7 : decode cJ23_getIntUnaligned 7 = .ok (.ifCond .ne 10, 3) := dk_154 0 10 (dk_at dksJ23_getIntUnaligned_0 7 rfl rfl)
theorem dJ23_getIntUnaligned_10 : decode cJ23_getIntUnaligned 10 = .ok (.aload_n 0, 1) := dk_42 (dk_at dksJ23_getIntUnaligned_0 10 rfl rfl)
theorem dJ23_getIntUnaligned_11 : decode cJ23_getIntUnaligned 11 = .ok (.aload_n 1, 1) := dk_43 (dk_at dksJ23_getIntUnaligned_0 11 rfl rfl)
theorem dJ23_getIntUnaligned_12 : decode cJ23_getIntUnaligned 12 = .ok (.lload_n 2, 1) := dk_32 (dk_at dksJ23_getIntUnaligned_0 12 rfl rfl)
theorem dJ23_getIntUnaligned_13 : decode cJ23_getIntUnaligned 13 = .ok (.invokevirtual 17, 3) := dk_182 0 17 (dk_at dksJ23_getIntUnaligned_0 13 rfl rfl)
theorem dJ23_getIntUnaligned_16 : decode cJ23_getIntUnaligned 16 = .ok (.ireturn, 1) := dk_172 (dk_at dksJ23_getIntUnaligned_0 16 rfl rfl)
theorem dJ23_getIntUnaligned_17 : decode cJ23_getIntUnaligned 17 = .ok (.lload_n 2, 1) := dk_32 (dk_at dksJ23_getIntUnaligned_0 17 rfl rfl)
theorem dJ23_getIntUnaligned_18 : decode cJ23_getIntUnaligned 18 = .ok (.lconst 1, 1) := dk_10 (dk_at dksJ23_getIntUnaligned_0 18 rfl rfl)
theorem dJ23_getIntUnaligned_19 : decode cJ23_getIntUnaligned 19 = .ok (.land, 1) := dk_127 (dk_at dksJ23_getIntUnaligned_0 19 rfl rfl)
theorem dJ23_getIntUnaligned_20 : decode cJ23_getIntUnaligned 20 = .ok (.lconst 0, 1) := dk_9 (dk_at dksJ23_getIntUnaligned_0 20 rfl rfl)
theorem dJ23_getIntUnaligned_21 : decode cJ23_getIntUnaligned 21 = .ok (.lcmp, 1) := dk_148 (dk_at dksJ23_getIntUnaligned_0 21 rfl rfl)
theorem dJ23_getIntUnaligned_22 : decode cJ23_getIntUnaligned 22 = .ok (.ifCond .ne 23, 3) := dk_154 0 23 (dk_at dksJ23_getIntUnaligned_1 0 rfl rfl)
theorem dJ23_getIntUnaligned_25 : decode cJ23_getIntUnaligned 25 = .ok (.aload_n 0, 1) := dk_42 (dk_at dksJ23_getIntUnaligned_1 3 rfl rfl)
theorem dJ23_getIntUnaligned_26 : decode cJ23_getIntUnaligned 26 = .ok (.aload_n 1, 1) := dk_43 (dk_at dksJ23_getIntUnaligned_1 4 rfl rfl)
theorem dJ23_getIntUnaligned_27 : decode cJ23_getIntUnaligned 27 = .ok (.lload_n 2, 1) := dk_32 (dk_at dksJ23_getIntUnaligned_1 5 rfl rfl)
theorem dJ23_getIntUnaligned_28 : decode cJ23_getIntUnaligned 28 = .ok (.invokevirtual 47, 3) := dk_182 0 47 (dk_at dksJ23_getIntUnaligned_1 6 rfl rfl)
theorem dJ23_getIntUnaligned_31 : decode cJ23_getIntUnaligned 31 = .ok (.aload_n 0, 1) := dk_42 (dk_at dksJ23_getIntUnaligned_1 9 rfl rfl)
theorem dJ23_getIntUnaligned_32 : decode cJ23_getIntUnaligned 32 = .ok (.aload_n 1, 1) := dk_43 (dk_at dksJ23_getIntUnaligned_1 10 rfl rfl)
theorem dJ23_getIntUnaligned_33 : decode cJ23_getIntUnaligned 33 = .ok (.lload_n 2, 1) := dk_32 (dk_at dksJ23_getIntUnaligned_1 11 rfl rfl)
theorem dJ23_getIntUnaligned_34 : decode cJ23_getIntUnaligned 34 = .ok (.ldc2_w 203, 3) := dk_20 0 203 (dk_at dksJ23_getIntUnaligned_1 12 rfl rfl)
theorem dJ23_getIntUnaligned_37 : decode cJ23_getIntUnaligned 37 = .ok (.ladd, 1) := dk_97 (dk_at dksJ23_getIntUnaligned_1 15 rfl rfl)
theorem dJ23_getIntUnaligned_38 : decode cJ23_getIntUnaligned 38 = .ok (.invokevirtual 47, 3) := dk_182 0 47 (dk_at dksJ23_getIntUnaligned_1 16 rfl rfl)
theorem dJ23_getIntUnaligned_41 : decode cJ23_getIntUnaligned 41 = .ok (.invokestatic 719, 3) := dk_184 2 207 (dk_at dksJ23_getIntUnaligned_1 19 rfl rfl)
theorem dJ23_getIntUnaligned_44 : decode cJ23_getIntUnaligned 44 = .ok (.ireturn, 1) := dk_172 (dk_at dksJ23_getIntUnaligned_1 22 rfl rfl)
theorem dJ23_getIntUnaligned_45 : decode cJ23_getIntUnaligned 45 = .ok (.aload_n 0, 1) := dk_42 (dk_at dksJ23_getIntUnaligned_1 23 rfl rfl)
theorem dJ23_getIntUnaligned_46 : decode cJ23_getIntUnaligned 46 = .ok (.aload_n 1, 1) := dk_43 (dk_at dksJ23_getIntUnaligned_2 0 rfl rfl)
theorem dJ23_getIntUnaligned_47 : decode cJ23_getIntUnaligned 47 = .ok (.lload_n 2, 1) := dk_32 (dk_at dksJ23_getIntUnaligned_2 1 rfl rfl)
theorem dJ23_getIntUnaligned_48 : decode cJ23_getIntUnaligned 48 = .ok (.invokevirtual 39, 3) := dk_182 0 39 (dk_at dksJ23_getIntUnaligned_2 2 rfl rfl)
theorem dJ23_getIntUnaligned_51 : decode cJ23_getIntUnaligned 51 = .ok (.aload_n 0, 1) := dk_42 (dk_at dksJ23_getIntUnaligned_2 5 rfl rfl)
theorem dJ23_getIntUnaligned_52 : decode cJ23_getIntUnaligned 52 = .ok (.aload_n 1, 1) := dk_43 (dk_at dksJ23_getIntUnaligned_2 6 rfl rfl)
theorem dJ23_getIntUnaligned_53 : decode cJ23_getIntUnaligned 53 = .ok (.lload_n 2, 1) := dk_32 (dk_at dksJ23_getIntUnaligned_2 7 rfl rfl)
theorem dJ23_getIntUnaligned_54 : decode cJ23_getIntUnaligned 54 = .ok (.lconst 1, 1) := dk_10 (dk_at dksJ23_getIntUnaligned_2 8 rfl rfl)
theorem dJ23_getIntUnaligned_55 : decode cJ23_getIntUnaligned 55 = .ok (.ladd, 1) := dk_97 (dk_at dksJ23_getIntUnaligned_2 9 rfl rfl)
theorem dJ23_getIntUnaligned_56 : decode cJ23_getIntUnaligned 56 = .ok (.invokevirtual 39, 3) := dk_182 0 39 (dk_at dksJ23_getIntUnaligned_2 10 rfl rfl)
theorem dJ23_getIntUnaligned_59 : decode cJ23_getIntUnaligned 59 = .ok (.aload_n 0, 1) := dk_42 (dk_at dksJ23_getIntUnaligned_2 13 rfl rfl)
theorem dJ23_getIntUnaligned_60 : decode cJ23_getIntUnaligned 60 = .ok (.aload_n 1, 1) := dk_43 (dk_at dksJ23_getIntUnaligned_2 14 rfl rfl)
theorem dJ23_getIntUnaligned_61 : decode cJ23_getIntUnaligned 61 = .ok (.lload_n 2, 1) := dk_32 (dk_at dksJ23_getIntUnaligned_2 15 rfl rfl)
theorem dJ23_getIntUnaligned_62 : decode cJ23_getIntUnaligned 62 = .ok (.ldc2_w 203, 3) := dk_20 0 203 (dk_at dksJ23_getIntUnaligned_2 16 rfl rfl)
theorem dJ23_getIntUnaligned_65 : decode cJ23_getIntUnaligned 65 = .ok (.ladd, 1) := dk_97 (dk_at dksJ23_getIntUnaligned_2 19 rfl rfl)
theorem dJ23_getIntUnaligned_66 : decode cJ23_getIntUnaligned 66 = .ok (.invokevirtual 39, 3) := dk_182 0 39 (dk_at dksJ23_getIntUnaligned_2 20 rfl rfl)
theorem dJ23_getIntUnaligned_69 : decode cJ23_getIntUnaligned 69 = .ok (.aload_n 0, 1) := dk_42 (dk_at dksJ23_getIntUnaligned_2 23 rfl rfl)
theorem dJ23_getIntUnaligned_70 : decode cJ23_getIntUnaligned 70 = .ok (.aload_n 1, 1) := dk_43 (dk_at dksJ23_getIntUnaligned_3 0 rfl rfl)
theorem dJ23_getIntUnaligned_71 : decode cJ23_getIntUnaligned 71 = .ok (.lload_n 2, 1) := dk_32 (dk_at dksJ23_getIntUnaligned_3 1 rfl rfl)
theorem dJ23_getIntUnaligned_72 : decode cJ23_getIntUnaligned 72 = .ok (.ldc2_w 349, 3) := dk_20 1 93 (dk_at dksJ23_getIntUnaligned_3 2 rfl rfl)
theorem dJ23_getIntUnaligned_75 : decode cJ23_getIntUnaligned 75 = .ok (.ladd, 1) := dk_97 (dk_at dksJ23_getIntUnaligned_3 5 rfl rfl)
theorem dJ23_getIntUnaligned_76 : decode cJ23_getIntUnaligned 76 = .ok (.invokevirtual 39, 3) := dk_182 0 39 (dk_at dksJ23_getIntUnaligned_3 6 rfl rfl)
theorem dJ23_getIntUnaligned_79 : decode cJ23_getIntUnaligned 79 = .ok (.invokestatic 723, 3) := dk_184 2 211 (dk_at dksJ23_getIntUnaligned_3 9 rfl rfl)
theorem dJ23_getIntUnaligned_82 : decode cJ23_getIntUnaligned 82 = .ok (.ireturn, 1) := dk_172 (dk_at dksJ23_getIntUnaligned_3 12 rfl rfl)
abbrev cJ23_makeInt : ByteArray := prog_62_method_354_code
def yJ23_makeInt : MethodName := ⟨RJ23, "makeInt", "(SS)I"⟩
def dkwJ23_makeInt_1 : List UInt8 := [172]
abbrev dktJ23_makeInt_1 : List UInt8 := dkwJ23_makeInt_1 ++ []
def dkwJ23_makeInt_0 : List UInt8 := [26, 184, 3, 24, 16, 16, 3, 184, 3, 16, 120, 27, 184, 3, 24, 16, 16, 16, 16, 184, 3, 16, 120, 128]
abbrev dktJ23_makeInt_0 : List UInt8 := dkwJ23_makeInt_0 ++ dktJ23_makeInt_1
theorem dksJ23_makeInt_0 : cJ23_makeInt.data.toList.drop 0 = dktJ23_makeInt_0 := by decide +kernel
theorem dksJ23_makeInt_1 : cJ23_makeInt.data.toList.drop 24 = dktJ23_makeInt_1 := dk_seg dksJ23_makeInt_0 24 rfl rfl
theorem dJ23_makeInt_0 : decode cJ23_makeInt 0 = .ok (.iload_n 0, 1) := dk_26 (dk_at dksJ23_makeInt_0 0 rfl rfl)
theorem dJ23_makeInt_1 : decode cJ23_makeInt 1 = .ok (.invokestatic 792, 3) := dk_184 3 24 (dk_at dksJ23_makeInt_0 1 rfl rfl)
theorem dJ23_makeInt_4 : decode cJ23_makeInt 4 = .ok (.bipush 16, 2) := dk_16 16 (dk_at dksJ23_makeInt_0 4 rfl rfl)
theorem dJ23_makeInt_6 : decode cJ23_makeInt 6 = .ok (.iconst 0, 1) := dk_3 (dk_at dksJ23_makeInt_0 6 rfl rfl)
theorem dJ23_makeInt_7 : decode cJ23_makeInt 7 = .ok (.invokestatic 784, 3) := dk_184 3 16 (dk_at dksJ23_makeInt_0 7 rfl rfl)
theorem dJ23_makeInt_10 : decode cJ23_makeInt 10 = .ok (.ishl, 1) := dk_120 (dk_at dksJ23_makeInt_0 10 rfl rfl)
theorem dJ23_makeInt_11 : decode cJ23_makeInt 11 = .ok (.iload_n 1, 1) := dk_27 (dk_at dksJ23_makeInt_0 11 rfl rfl)
theorem dJ23_makeInt_12 : decode cJ23_makeInt 12 = .ok (.invokestatic 792, 3) := dk_184 3 24 (dk_at dksJ23_makeInt_0 12 rfl rfl)
theorem dJ23_makeInt_15 : decode cJ23_makeInt 15 = .ok (.bipush 16, 2) := dk_16 16 (dk_at dksJ23_makeInt_0 15 rfl rfl)
theorem dJ23_makeInt_17 : decode cJ23_makeInt 17 = .ok (.bipush 16, 2) := dk_16 16 (dk_at dksJ23_makeInt_0 17 rfl rfl)
theorem dJ23_makeInt_19 : decode cJ23_makeInt 19 = .ok (.invokestatic 784, 3) := dk_184 3 16 (dk_at dksJ23_makeInt_0 19 rfl rfl)
theorem dJ23_makeInt_22 : decode cJ23_makeInt 22 = .ok (.ishl, 1) := dk_120 (dk_at dksJ23_makeInt_0 22 rfl rfl)
theorem dJ23_makeInt_23 : decode cJ23_makeInt 23 = .ok (.ior, 1) := dk_128 (dk_at dksJ23_makeInt_0 23 rfl rfl)
theorem dJ23_makeInt_24 : decode cJ23_makeInt 24 = .ok (.ireturn, 1) := dk_172 (dk_at dksJ23_makeInt_1 0 rfl rfl)
abbrev cJ23_toUnsignedInt : ByteArray := prog_62_method_367_code
def yJ23_toUnsignedInt : MethodName := ⟨RJ23, "toUnsignedInt", "(S)I"⟩
def dkwJ23_toUnsignedInt_0 : List UInt8 := [26, 19, 1, 118, 126, 172]
abbrev dktJ23_toUnsignedInt_0 : List UInt8 := dkwJ23_toUnsignedInt_0 ++ []
theorem dksJ23_toUnsignedInt_0 : cJ23_toUnsignedInt.data.toList.drop 0 = dktJ23_toUnsignedInt_0 := by decide +kernel
theorem dJ23_toUnsignedInt_0 : decode cJ23_toUnsignedInt 0 = .ok (.iload_n 0, 1) := dk_26 (dk_at dksJ23_toUnsignedInt_0 0 rfl rfl)
theorem dJ23_toUnsignedInt_1 : decode cJ23_toUnsignedInt 1 = .ok (.ldc_w 374, 3) := dk_19 1 118 (dk_at dksJ23_toUnsignedInt_0 1 rfl rfl)
theorem dJ23_toUnsignedInt_4 : decode cJ23_toUnsignedInt 4 = .ok (.iand, 1) := dk_126 (dk_at dksJ23_toUnsignedInt_0 4 rfl rfl)
theorem dJ23_toUnsignedInt_5 : decode cJ23_toUnsignedInt 5 = .ok (.ireturn, 1) := dk_172 (dk_at dksJ23_toUnsignedInt_0 5 rfl rfl)
abbrev cJ23_makeInt_2 : ByteArray := prog_62_method_355_code
def yJ23_makeInt_2 : MethodName := ⟨RJ23, "makeInt", "(BBBB)I"⟩
def dkwJ23_makeInt_2_2 : List UInt8 := [120, 128, 172]
abbrev dktJ23_makeInt_2_2 : List UInt8 := dkwJ23_makeInt_2_2 ++ []
def dkwJ23_makeInt_2_1 : List UInt8 := [28, 184, 3, 28, 16, 24, 16, 16, 184, 3, 16, 120, 128, 29, 184, 3, 28, 16, 24, 16, 24, 184, 3, 16]
abbrev dktJ23_makeInt_2_1 : List UInt8 := dkwJ23_makeInt_2_1 ++ dktJ23_makeInt_2_2
def dkwJ23_makeInt_2_0 : List UInt8 := [26, 184, 3, 28, 16, 24, 3, 184, 3, 16, 120, 27, 184, 3, 28, 16, 24, 16, 8, 184, 3, 16, 120, 128]
abbrev dktJ23_makeInt_2_0 : List UInt8 := dkwJ23_makeInt_2_0 ++ dktJ23_makeInt_2_1
theorem dksJ23_makeInt_2_0 : cJ23_makeInt_2.data.toList.drop 0 = dktJ23_makeInt_2_0 := by decide +kernel
theorem dksJ23_makeInt_2_1 : cJ23_makeInt_2.data.toList.drop 24 = dktJ23_makeInt_2_1 := dk_seg dksJ23_makeInt_2_0 24 rfl rfl
theorem dksJ23_makeInt_2_2 : cJ23_makeInt_2.data.toList.drop 48 = dktJ23_makeInt_2_2 := dk_seg dksJ23_makeInt_2_1 24 rfl rfl
theorem dJ23_makeInt_2_0 : decode cJ23_makeInt_2 0 = .ok (.iload_n 0, 1) := dk_26 (dk_at dksJ23_makeInt_2_0 0 rfl rfl)
theorem dJ23_makeInt_2_1 : decode cJ23_makeInt_2 1 = .ok (.invokestatic 796, 3) := dk_184 3 28 (dk_at dksJ23_makeInt_2_0 1 rfl rfl)
theorem dJ23_makeInt_2_4 : decode cJ23_makeInt_2 4 = .ok (.bipush 24, 2) := dk_16 24 (dk_at dksJ23_makeInt_2_0 4 rfl rfl)
theorem dJ23_makeInt_2_6 : decode cJ23_makeInt_2 6 = .ok (.iconst 0, 1) := dk_3 (dk_at dksJ23_makeInt_2_0 6 rfl rfl)
theorem dJ23_makeInt_2_7 : decode cJ23_makeInt_2 7 = .ok (.invokestatic 784, 3) := dk_184 3 16 (dk_at dksJ23_makeInt_2_0 7 rfl rfl)
theorem dJ23_makeInt_2_10 : decode cJ23_makeInt_2 10 = .ok (.ishl, 1) := dk_120 (dk_at dksJ23_makeInt_2_0 10 rfl rfl)
theorem dJ23_makeInt_2_11 : decode cJ23_makeInt_2 11 = .ok (.iload_n 1, 1) := dk_27 (dk_at dksJ23_makeInt_2_0 11 rfl rfl)
theorem dJ23_makeInt_2_12 : decode cJ23_makeInt_2 12 = .ok (.invokestatic 796, 3) := dk_184 3 28 (dk_at dksJ23_makeInt_2_0 12 rfl rfl)
theorem dJ23_makeInt_2_15 : decode cJ23_makeInt_2 15 = .ok (.bipush 24, 2) := dk_16 24 (dk_at dksJ23_makeInt_2_0 15 rfl rfl)
theorem dJ23_makeInt_2_17 : decode cJ23_makeInt_2 17 = .ok (.bipush 8, 2) := dk_16 8 (dk_at dksJ23_makeInt_2_0 17 rfl rfl)
theorem dJ23_makeInt_2_19 : decode cJ23_makeInt_2 19 = .ok (.invokestatic 784, 3) := dk_184 3 16 (dk_at dksJ23_makeInt_2_0 19 rfl rfl)
theorem dJ23_makeInt_2_22 : decode cJ23_makeInt_2 22 = .ok (.ishl, 1) := dk_120 (dk_at dksJ23_makeInt_2_0 22 rfl rfl)
theorem dJ23_makeInt_2_23 : decode cJ23_makeInt_2 23 = .ok (.ior, 1) := dk_128 (dk_at dksJ23_makeInt_2_0 23 rfl rfl)
theorem dJ23_makeInt_2_24 : decode cJ23_makeInt_2 24 = .ok (.iload_n 2, 1) := dk_28 (dk_at dksJ23_makeInt_2_1 0 rfl rfl)
theorem dJ23_makeInt_2_25 : decode cJ23_makeInt_2 25 = .ok (.invokestatic 796, 3) := dk_184 3 28 (dk_at dksJ23_makeInt_2_1 1 rfl rfl)
theorem dJ23_makeInt_2_28 : decode cJ23_makeInt_2 28 = .ok (.bipush 24, 2) := dk_16 24 (dk_at dksJ23_makeInt_2_1 4 rfl rfl)
theorem dJ23_makeInt_2_30 : decode cJ23_makeInt_2 30 = .ok (.bipush 16, 2) := dk_16 16 (dk_at dksJ23_makeInt_2_1 6 rfl rfl)
theorem dJ23_makeInt_2_32 : decode cJ23_makeInt_2 32 = .ok (.invokestatic 784, 3) := dk_184 3 16 (dk_at dksJ23_makeInt_2_1 8 rfl rfl)
theorem dJ23_makeInt_2_35 : decode cJ23_makeInt_2 35 = .ok (.ishl, 1) := dk_120 (dk_at dksJ23_makeInt_2_1 11 rfl rfl)
theorem dJ23_makeInt_2_36 : decode cJ23_makeInt_2 36 = .ok (.ior, 1) := dk_128 (dk_at dksJ23_makeInt_2_1 12 rfl rfl)
theorem dJ23_makeInt_2_37 : decode cJ23_makeInt_2 37 = .ok (.iload_n 3, 1) := dk_29 (dk_at dksJ23_makeInt_2_1 13 rfl rfl)
theorem dJ23_makeInt_2_38 : decode cJ23_makeInt_2 38 = .ok (.invokestatic 796, 3) := dk_184 3 28 (dk_at dksJ23_makeInt_2_1 14 rfl rfl)
theorem dJ23_makeInt_2_41 : decode cJ23_makeInt_2 41 = .ok (.bipush 24, 2) := dk_16 24 (dk_at dksJ23_makeInt_2_1 17 rfl rfl)
theorem dJ23_makeInt_2_43 : decode cJ23_makeInt_2 43 = .ok (.bipush 24, 2) := dk_16 24 (dk_at dksJ23_makeInt_2_1 19 rfl rfl)
theorem dJ23_makeInt_2_45 : decode cJ23_makeInt_2 45 = .ok (.invokestatic 784, 3) := dk_184 3 16 (dk_at dksJ23_makeInt_2_1 21 rfl rfl)
theorem dJ23_makeInt_2_48 : decode cJ23_makeInt_2 48 = .ok (.ishl, 1) := dk_120 (dk_at dksJ23_makeInt_2_2 0 rfl rfl)
theorem dJ23_makeInt_2_49 : decode cJ23_makeInt_2 49 = .ok (.ior, 1) := dk_128 (dk_at dksJ23_makeInt_2_2 1 rfl rfl)
theorem dJ23_makeInt_2_50 : decode cJ23_makeInt_2 50 = .ok (.ireturn, 1) := dk_172 (dk_at dksJ23_makeInt_2_2 2 rfl rfl)
abbrev cJ23_toUnsignedInt_2 : ByteArray := prog_62_method_366_code
def yJ23_toUnsignedInt_2 : MethodName := ⟨RJ23, "toUnsignedInt", "(B)I"⟩
def dkwJ23_toUnsignedInt_2_0 : List UInt8 := [26, 17, 0, 255, 126, 172]
abbrev dktJ23_toUnsignedInt_2_0 : List UInt8 := dkwJ23_toUnsignedInt_2_0 ++ []
theorem dksJ23_toUnsignedInt_2_0 : cJ23_toUnsignedInt_2.data.toList.drop 0 = dktJ23_toUnsignedInt_2_0 := by decide +kernel
theorem dJ23_toUnsignedInt_2_0 : decode cJ23_toUnsignedInt_2 0 = .ok (.iload_n 0, 1) := dk_26 (dk_at dksJ23_toUnsignedInt_2_0 0 rfl rfl)
theorem dJ23_toUnsignedInt_2_1 : decode cJ23_toUnsignedInt_2 1 = .ok (.sipush 255, 3) := dk_17 0 255 (dk_at dksJ23_toUnsignedInt_2_0 1 rfl rfl)
theorem dJ23_toUnsignedInt_2_4 : decode cJ23_toUnsignedInt_2 4 = .ok (.iand, 1) := dk_126 (dk_at dksJ23_toUnsignedInt_2_0 4 rfl rfl)
theorem dJ23_toUnsignedInt_2_5 : decode cJ23_toUnsignedInt_2 5 = .ok (.ireturn, 1) := dk_172 (dk_at dksJ23_toUnsignedInt_2_0 5 rfl rfl)
theorem q164 : (Jvm.Cond.initialized "jdk/internal/misc/Unsafe") ∈ lw_all := lw_g (lw_at lw_m1 36 rfl) rfl
theorem q1019 : (Jvm.Cond.selects "jdk/internal/misc/Unsafe" ({ cls := "java/lang/Object", name := "getClass", desc := "()Ljava/lang/Class;" } : Jvm.MethodName) ({ cls := "java/lang/Object", name := "getClass", desc := "()Ljava/lang/Class;" } : Jvm.MethodName)) ∈ lw_all := lw_g (lw_at lw_m4 171 rfl) rfl
theorem q1167 : (Jvm.Cond.laysStatic "jdk/internal/misc/Unsafe" "ARRAY_BYTE_BASE_OFFSET" "I") ∈ lw_tbl := lw_at lw_m5 79 rfl
theorem q1178 : (Jvm.Cond.instanceMethod ({ cls := "jdk/internal/misc/Unsafe", name := "getLongUnaligned", desc := "(Ljava/lang/Object;J)J" } : Jvm.MethodName)) ∈ lw_all := lw_g (lw_at lw_m5 90 rfl) rfl
theorem q1179 : (Jvm.Cond.selects "jdk/internal/misc/Unsafe" ({ cls := "jdk/internal/misc/Unsafe", name := "getLongUnaligned", desc := "(Ljava/lang/Object;J)J" } : Jvm.MethodName) ({ cls := "jdk/internal/misc/Unsafe", name := "getLongUnaligned", desc := "(Ljava/lang/Object;J)J" } : Jvm.MethodName)) ∈ lw_all := lw_g (lw_at lw_m5 91 rfl) rfl
theorem q1180 : (Jvm.Cond.code ({ cls := "jdk/internal/misc/Unsafe", name := "getLongUnaligned", desc := "(Ljava/lang/Object;J)J" } : Jvm.MethodName) prog_62_method_334_code (4 : Nat) (Option.some Jvm.ClassFile.FieldType.long)) ∈ lw_all := lw_g (lw_at lw_m5 92 rfl) rfl
theorem q1181 : (Jvm.Cond.constantLong "jdk/internal/misc/Unsafe" (696 : Nat) (7 : Int64)) ∈ lw_all := lw_g (lw_at lw_m5 93 rfl) rfl
theorem q1182 : (Jvm.Cond.methodLink "jdk/internal/misc/Unsafe" (27 : Nat) ({ cls := "jdk/internal/misc/Unsafe", name := "getLong", desc := "(Ljava/lang/Object;J)J" } : Jvm.MethodName)) ∈ lw_all := lw_g (lw_at lw_m5 94 rfl) rfl
theorem q1183 : (Jvm.Cond.instanceMethod ({ cls := "jdk/internal/misc/Unsafe", name := "getLong", desc := "(Ljava/lang/Object;J)J" } : Jvm.MethodName)) ∈ lw_all := lw_g (lw_at lw_m5 95 rfl) rfl
theorem q1184 : (Jvm.Cond.selects "jdk/internal/misc/Unsafe" ({ cls := "jdk/internal/misc/Unsafe", name := "getLong", desc := "(Ljava/lang/Object;J)J" } : Jvm.MethodName) ({ cls := "jdk/internal/misc/Unsafe", name := "getLong", desc := "(Ljava/lang/Object;J)J" } : Jvm.MethodName)) ∈ lw_all := lw_g (lw_at lw_m5 96 rfl) rfl
theorem q1185 : (Jvm.Cond.native ({ cls := "jdk/internal/misc/Unsafe", name := "getLong", desc := "(Ljava/lang/Object;J)J" } : Jvm.MethodName)) ∈ lw_all := lw_g (lw_at lw_m5 97 rfl) rfl
theorem q1186 : (Jvm.Cond.constantLong "jdk/internal/misc/Unsafe" (349 : Nat) (3 : Int64)) ∈ lw_all := lw_g (lw_at lw_m5 98 rfl) rfl
theorem q1187 : (Jvm.Cond.methodLink "jdk/internal/misc/Unsafe" (17 : Nat) ({ cls := "jdk/internal/misc/Unsafe", name := "getInt", desc := "(Ljava/lang/Object;J)I" } : Jvm.MethodName)) ∈ lw_all := lw_g (lw_at lw_m5 99 rfl) rfl
theorem q1188 : (Jvm.Cond.instanceMethod ({ cls := "jdk/internal/misc/Unsafe", name := "getInt", desc := "(Ljava/lang/Object;J)I" } : Jvm.MethodName)) ∈ lw_all := lw_g (lw_at lw_m5 100 rfl) rfl
theorem q1189 : (Jvm.Cond.selects "jdk/internal/misc/Unsafe" ({ cls := "jdk/internal/misc/Unsafe", name := "getInt", desc := "(Ljava/lang/Object;J)I" } : Jvm.MethodName) ({ cls := "jdk/internal/misc/Unsafe", name := "getInt", desc := "(Ljava/lang/Object;J)I" } : Jvm.MethodName)) ∈ lw_all := lw_g (lw_at lw_m5 101 rfl) rfl
theorem q1190 : (Jvm.Cond.native ({ cls := "jdk/internal/misc/Unsafe", name := "getInt", desc := "(Ljava/lang/Object;J)I" } : Jvm.MethodName)) ∈ lw_all := lw_g (lw_at lw_m5 102 rfl) rfl
theorem q1191 : (Jvm.Cond.constantLong "jdk/internal/misc/Unsafe" (205 : Nat) (4 : Int64)) ∈ lw_all := lw_g (lw_at lw_m5 103 rfl) rfl
theorem q1192 : (Jvm.Cond.methodLink "jdk/internal/misc/Unsafe" (698 : Nat) ({ cls := "jdk/internal/misc/Unsafe", name := "makeLong", desc := "(II)J" } : Jvm.MethodName)) ∈ lw_all := lw_g (lw_at lw_m5 104 rfl) rfl
theorem q1193 : (Jvm.Cond.static ({ cls := "jdk/internal/misc/Unsafe", name := "makeLong", desc := "(II)J" } : Jvm.MethodName)) ∈ lw_all := lw_g (lw_at lw_m5 105 rfl) rfl
theorem q1194 : (Jvm.Cond.code ({ cls := "jdk/internal/misc/Unsafe", name := "makeLong", desc := "(II)J" } : Jvm.MethodName) prog_62_method_353_code (2 : Nat) (Option.some Jvm.ClassFile.FieldType.long)) ∈ lw_all := lw_g (lw_at lw_m5 106 rfl) rfl
theorem q1195 : (Jvm.Cond.methodLink "jdk/internal/misc/Unsafe" (791 : Nat) ({ cls := "jdk/internal/misc/Unsafe", name := "toUnsignedLong", desc := "(I)J" } : Jvm.MethodName)) ∈ lw_all := lw_g (lw_at lw_m5 107 rfl) rfl
theorem q1196 : (Jvm.Cond.static ({ cls := "jdk/internal/misc/Unsafe", name := "toUnsignedLong", desc := "(I)J" } : Jvm.MethodName)) ∈ lw_all := lw_g (lw_at lw_m5 108 rfl) rfl
theorem q1197 : (Jvm.Cond.code ({ cls := "jdk/internal/misc/Unsafe", name := "toUnsignedLong", desc := "(I)J" } : Jvm.MethodName) prog_62_method_370_code (1 : Nat) (Option.some Jvm.ClassFile.FieldType.long)) ∈ lw_all := lw_g (lw_at lw_m5 109 rfl) rfl
theorem q1198 : (Jvm.Cond.constantLong "jdk/internal/misc/Unsafe" (812 : Nat) (4294967295 : Int64)) ∈ lw_all := lw_g (lw_at lw_m5 110 rfl) rfl
theorem q1199 : (Jvm.Cond.methodLink "jdk/internal/misc/Unsafe" (784 : Nat) ({ cls := "jdk/internal/misc/Unsafe", name := "pickPos", desc := "(II)I" } : Jvm.MethodName)) ∈ lw_all := lw_g (lw_at lw_m5 111 rfl) rfl
theorem q1200 : (Jvm.Cond.static ({ cls := "jdk/internal/misc/Unsafe", name := "pickPos", desc := "(II)I" } : Jvm.MethodName)) ∈ lw_all := lw_g (lw_at lw_m5 112 rfl) rfl
theorem q1201 : (Jvm.Cond.code ({ cls := "jdk/internal/misc/Unsafe", name := "pickPos", desc := "(II)I" } : Jvm.MethodName) prog_62_method_350_code (2 : Nat) (Option.some Jvm.ClassFile.FieldType.int)) ∈ lw_all := lw_g (lw_at lw_m5 113 rfl) rfl
theorem q1202 : (Jvm.Cond.fieldLink "jdk/internal/misc/Unsafe" (351 : Nat) "jdk/internal/misc/UnsafeConstants" "BIG_ENDIAN" "Z") ∈ lw_all := lw_g (lw_at lw_m5 114 rfl) rfl
theorem q1204 : (Jvm.Cond.methodLink "jdk/internal/misc/Unsafe" (47 : Nat) ({ cls := "jdk/internal/misc/Unsafe", name := "getShort", desc := "(Ljava/lang/Object;J)S" } : Jvm.MethodName)) ∈ lw_all := lw_g (lw_at lw_m5 116 rfl) rfl
theorem q1205 : (Jvm.Cond.instanceMethod ({ cls := "jdk/internal/misc/Unsafe", name := "getShort", desc := "(Ljava/lang/Object;J)S" } : Jvm.MethodName)) ∈ lw_all := lw_g (lw_at lw_m5 117 rfl) rfl
theorem q1206 : (Jvm.Cond.selects "jdk/internal/misc/Unsafe" ({ cls := "jdk/internal/misc/Unsafe", name := "getShort", desc := "(Ljava/lang/Object;J)S" } : Jvm.MethodName) ({ cls := "jdk/internal/misc/Unsafe", name := "getShort", desc := "(Ljava/lang/Object;J)S" } : Jvm.MethodName)) ∈ lw_all := lw_g (lw_at lw_m5 118 rfl) rfl
theorem q1207 : (Jvm.Cond.native ({ cls := "jdk/internal/misc/Unsafe", name := "getShort", desc := "(Ljava/lang/Object;J)S" } : Jvm.MethodName)) ∈ lw_all := lw_g (lw_at lw_m5 119 rfl) rfl
theorem q1208 : (Jvm.Cond.constantLong "jdk/internal/misc/Unsafe" (203 : Nat) (2 : Int64)) ∈ lw_all := lw_g (lw_at lw_m5 120 rfl) rfl
theorem q1209 : (Jvm.Cond.constantLong "jdk/internal/misc/Unsafe" (702 : Nat) (6 : Int64)) ∈ lw_all := lw_g (lw_at lw_m5 121 rfl) rfl
theorem q1210 : (Jvm.Cond.methodLink "jdk/internal/misc/Unsafe" (704 : Nat) ({ cls := "jdk/internal/misc/Unsafe", name := "makeLong", desc := "(SSSS)J" } : Jvm.MethodName)) ∈ lw_all := lw_g (lw_at lw_m5 122 rfl) rfl
theorem q1211 : (Jvm.Cond.static ({ cls := "jdk/internal/misc/Unsafe", name := "makeLong", desc := "(SSSS)J" } : Jvm.MethodName)) ∈ lw_all := lw_g (lw_at lw_m5 123 rfl) rfl
theorem q1212 : (Jvm.Cond.code ({ cls := "jdk/internal/misc/Unsafe", name := "makeLong", desc := "(SSSS)J" } : Jvm.MethodName) prog_62_method_352_code (4 : Nat) (Option.some Jvm.ClassFile.FieldType.long)) ∈ lw_all := lw_g (lw_at lw_m5 124 rfl) rfl
theorem q1213 : (Jvm.Cond.methodLink "jdk/internal/misc/Unsafe" (788 : Nat) ({ cls := "jdk/internal/misc/Unsafe", name := "toUnsignedLong", desc := "(S)J" } : Jvm.MethodName)) ∈ lw_all := lw_g (lw_at lw_m5 125 rfl) rfl
theorem q1214 : (Jvm.Cond.static ({ cls := "jdk/internal/misc/Unsafe", name := "toUnsignedLong", desc := "(S)J" } : Jvm.MethodName)) ∈ lw_all := lw_g (lw_at lw_m5 126 rfl) rfl
theorem q1215 : (Jvm.Cond.code ({ cls := "jdk/internal/misc/Unsafe", name := "toUnsignedLong", desc := "(S)J" } : Jvm.MethodName) prog_62_method_369_code (1 : Nat) (Option.some Jvm.ClassFile.FieldType.long)) ∈ lw_all := lw_g (lw_at lw_m5 127 rfl) rfl
theorem q1216 : (Jvm.Cond.constantLong "jdk/internal/misc/Unsafe" (810 : Nat) (65535 : Int64)) ∈ lw_all := lw_g (lw_at lw_m5 128 rfl) rfl
theorem q1217 : (Jvm.Cond.methodLink "jdk/internal/misc/Unsafe" (39 : Nat) ({ cls := "jdk/internal/misc/Unsafe", name := "getByte", desc := "(Ljava/lang/Object;J)B" } : Jvm.MethodName)) ∈ lw_all := lw_g (lw_at lw_m5 129 rfl) rfl
theorem q1218 : (Jvm.Cond.instanceMethod ({ cls := "jdk/internal/misc/Unsafe", name := "getByte", desc := "(Ljava/lang/Object;J)B" } : Jvm.MethodName)) ∈ lw_all := lw_g (lw_at lw_m5 130 rfl) rfl
theorem q1219 : (Jvm.Cond.selects "jdk/internal/misc/Unsafe" ({ cls := "jdk/internal/misc/Unsafe", name := "getByte", desc := "(Ljava/lang/Object;J)B" } : Jvm.MethodName) ({ cls := "jdk/internal/misc/Unsafe", name := "getByte", desc := "(Ljava/lang/Object;J)B" } : Jvm.MethodName)) ∈ lw_all := lw_g (lw_at lw_m5 131 rfl) rfl
theorem q1220 : (Jvm.Cond.native ({ cls := "jdk/internal/misc/Unsafe", name := "getByte", desc := "(Ljava/lang/Object;J)B" } : Jvm.MethodName)) ∈ lw_all := lw_g (lw_at lw_m5 132 rfl) rfl
theorem q1221 : (Jvm.Cond.constantLong "jdk/internal/misc/Unsafe" (707 : Nat) (5 : Int64)) ∈ lw_all := lw_g (lw_at lw_m5 133 rfl) rfl
theorem q1222 : (Jvm.Cond.methodLink "jdk/internal/misc/Unsafe" (709 : Nat) ({ cls := "jdk/internal/misc/Unsafe", name := "makeLong", desc := "(BBBBBBBB)J" } : Jvm.MethodName)) ∈ lw_all := lw_g (lw_at lw_m5 134 rfl) rfl
theorem q1223 : (Jvm.Cond.static ({ cls := "jdk/internal/misc/Unsafe", name := "makeLong", desc := "(BBBBBBBB)J" } : Jvm.MethodName)) ∈ lw_all := lw_g (lw_at lw_m5 135 rfl) rfl
theorem q1224 : (Jvm.Cond.code ({ cls := "jdk/internal/misc/Unsafe", name := "makeLong", desc := "(BBBBBBBB)J" } : Jvm.MethodName) prog_62_method_351_code (8 : Nat) (Option.some Jvm.ClassFile.FieldType.long)) ∈ lw_all := lw_g (lw_at lw_m5 136 rfl) rfl
theorem q1225 : (Jvm.Cond.methodLink "jdk/internal/misc/Unsafe" (781 : Nat) ({ cls := "jdk/internal/misc/Unsafe", name := "toUnsignedLong", desc := "(B)J" } : Jvm.MethodName)) ∈ lw_all := lw_g (lw_at lw_m5 137 rfl) rfl
theorem q1226 : (Jvm.Cond.static ({ cls := "jdk/internal/misc/Unsafe", name := "toUnsignedLong", desc := "(B)J" } : Jvm.MethodName)) ∈ lw_all := lw_g (lw_at lw_m5 138 rfl) rfl
theorem q1227 : (Jvm.Cond.code ({ cls := "jdk/internal/misc/Unsafe", name := "toUnsignedLong", desc := "(B)J" } : Jvm.MethodName) prog_62_method_368_code (1 : Nat) (Option.some Jvm.ClassFile.FieldType.long)) ∈ lw_all := lw_g (lw_at lw_m5 139 rfl) rfl
theorem q1228 : (Jvm.Cond.constantLong "jdk/internal/misc/Unsafe" (808 : Nat) (255 : Int64)) ∈ lw_all := lw_g (lw_at lw_m5 140 rfl) rfl
theorem q1249 : (Jvm.Cond.instanceMethod ({ cls := "jdk/internal/misc/Unsafe", name := "getIntUnaligned", desc := "(Ljava/lang/Object;J)I" } : Jvm.MethodName)) ∈ lw_all := lw_g (lw_at lw_m5 161 rfl) rfl
theorem q1250 : (Jvm.Cond.selects "jdk/internal/misc/Unsafe" ({ cls := "jdk/internal/misc/Unsafe", name := "getIntUnaligned", desc := "(Ljava/lang/Object;J)I" } : Jvm.MethodName) ({ cls := "jdk/internal/misc/Unsafe", name := "getIntUnaligned", desc := "(Ljava/lang/Object;J)I" } : Jvm.MethodName)) ∈ lw_all := lw_g (lw_at lw_m5 162 rfl) rfl
theorem q1251 : (Jvm.Cond.code ({ cls := "jdk/internal/misc/Unsafe", name := "getIntUnaligned", desc := "(Ljava/lang/Object;J)I" } : Jvm.MethodName) prog_62_method_336_code (4 : Nat) (Option.some Jvm.ClassFile.FieldType.int)) ∈ lw_all := lw_g (lw_at lw_m5 163 rfl) rfl
theorem q1252 : (Jvm.Cond.methodLink "jdk/internal/misc/Unsafe" (719 : Nat) ({ cls := "jdk/internal/misc/Unsafe", name := "makeInt", desc := "(SS)I" } : Jvm.MethodName)) ∈ lw_all := lw_g (lw_at lw_m5 164 rfl) rfl
theorem q1253 : (Jvm.Cond.static ({ cls := "jdk/internal/misc/Unsafe", name := "makeInt", desc := "(SS)I" } : Jvm.MethodName)) ∈ lw_all := lw_g (lw_at lw_m5 165 rfl) rfl
theorem q1254 : (Jvm.Cond.code ({ cls := "jdk/internal/misc/Unsafe", name := "makeInt", desc := "(SS)I" } : Jvm.MethodName) prog_62_method_354_code (2 : Nat) (Option.some Jvm.ClassFile.FieldType.int)) ∈ lw_all := lw_g (lw_at lw_m5 166 rfl) rfl
theorem q1255 : (Jvm.Cond.methodLink "jdk/internal/misc/Unsafe" (792 : Nat) ({ cls := "jdk/internal/misc/Unsafe", name := "toUnsignedInt", desc := "(S)I" } : Jvm.MethodName)) ∈ lw_all := lw_g (lw_at lw_m5 167 rfl) rfl
theorem q1256 : (Jvm.Cond.static ({ cls := "jdk/internal/misc/Unsafe", name := "toUnsignedInt", desc := "(S)I" } : Jvm.MethodName)) ∈ lw_all := lw_g (lw_at lw_m5 168 rfl) rfl
theorem q1257 : (Jvm.Cond.code ({ cls := "jdk/internal/misc/Unsafe", name := "toUnsignedInt", desc := "(S)I" } : Jvm.MethodName) prog_62_method_367_code (1 : Nat) (Option.some Jvm.ClassFile.FieldType.int)) ∈ lw_all := lw_g (lw_at lw_m5 169 rfl) rfl
theorem q1258 : (Jvm.Cond.constant "jdk/internal/misc/Unsafe" (374 : Nat) (65535 : Int32)) ∈ lw_all := lw_g (lw_at lw_m5 170 rfl) rfl
theorem q1259 : (Jvm.Cond.methodLink "jdk/internal/misc/Unsafe" (723 : Nat) ({ cls := "jdk/internal/misc/Unsafe", name := "makeInt", desc := "(BBBB)I" } : Jvm.MethodName)) ∈ lw_all := lw_g (lw_at lw_m5 171 rfl) rfl
theorem q1260 : (Jvm.Cond.static ({ cls := "jdk/internal/misc/Unsafe", name := "makeInt", desc := "(BBBB)I" } : Jvm.MethodName)) ∈ lw_all := lw_g (lw_at lw_m5 172 rfl) rfl
theorem q1261 : (Jvm.Cond.code ({ cls := "jdk/internal/misc/Unsafe", name := "makeInt", desc := "(BBBB)I" } : Jvm.MethodName) prog_62_method_355_code (4 : Nat) (Option.some Jvm.ClassFile.FieldType.int)) ∈ lw_all := lw_g (lw_at lw_m5 173 rfl) rfl
theorem q1262 : (Jvm.Cond.methodLink "jdk/internal/misc/Unsafe" (796 : Nat) ({ cls := "jdk/internal/misc/Unsafe", name := "toUnsignedInt", desc := "(B)I" } : Jvm.MethodName)) ∈ lw_all := lw_g (lw_at lw_m5 174 rfl) rfl
theorem q1263 : (Jvm.Cond.static ({ cls := "jdk/internal/misc/Unsafe", name := "toUnsignedInt", desc := "(B)I" } : Jvm.MethodName)) ∈ lw_all := lw_g (lw_at lw_m5 175 rfl) rfl
theorem q1264 : (Jvm.Cond.code ({ cls := "jdk/internal/misc/Unsafe", name := "toUnsignedInt", desc := "(B)I" } : Jvm.MethodName) prog_62_method_366_code (1 : Nat) (Option.some Jvm.ClassFile.FieldType.int)) ∈ lw_all := lw_g (lw_at lw_m5 176 rfl) rfl
theorem q3273 : (Jvm.Cond.castable "jdk/internal/misc/Unsafe" "java/lang/Object") ∈ lw_tbl := lw_at lw_m14 25 rfl
/-! java/lang/Long -/
set_option maxRecDepth 100000
def RJ24 : String := "java/lang/Long"
abbrev cJ24_numberOfLeadingZeros : ByteArray := prog_31_method_48_code
def yJ24_numberOfLeadingZeros : MethodName := ⟨RJ24, "numberOfLeadingZeros", "(J)I"⟩
def dkwJ24_numberOfLeadingZeros_1 : List UInt8 := [184, 1, 52, 172]
abbrev dktJ24_numberOfLeadingZeros_1 : List UInt8 := dkwJ24_numberOfLeadingZeros_1 ++ []
def dkwJ24_numberOfLeadingZeros_0 : List UInt8 := [30, 16, 32, 125, 136, 61, 28, 154, 0, 14, 16, 32, 30, 136, 184, 1, 52, 96, 167, 0, 7, 28]
abbrev dktJ24_numberOfLeadingZeros_0 : List UInt8 := dkwJ24_numberOfLeadingZeros_0 ++ dktJ24_numberOfLeadingZeros_1
theorem dksJ24_numberOfLeadingZeros_0 : cJ24_numberOfLeadingZeros.data.toList.drop 0 = dktJ24_numberOfLeadingZeros_0 := by decide +kernel
theorem dksJ24_numberOfLeadingZeros_1 : cJ24_numberOfLeadingZeros.data.toList.drop 22 = dktJ24_numberOfLeadingZeros_1 := dk_seg dksJ24_numberOfLeadingZeros_0 22 rfl rfl
theorem dJ24_numberOfLeadingZeros_0 : decode cJ24_numberOfLeadingZeros 0 = .ok (.lload_n 0, 1) := dk_30 (dk_at dksJ24_numberOfLeadingZeros_0 0 rfl rfl)
theorem dJ24_numberOfLeadingZeros_1 : decode cJ24_numberOfLeadingZeros 1 = .ok (.bipush 32, 2) := dk_16 32 (dk_at dksJ24_numberOfLeadingZeros_0 1 rfl rfl)
theorem dJ24_numberOfLeadingZeros_3 : decode cJ24_numberOfLeadingZeros 3 = .ok (.lushr, 1) := dk_125 (dk_at dksJ24_numberOfLeadingZeros_0 3 rfl rfl)
theorem dJ24_numberOfLeadingZeros_4 : decode cJ24_numberOfLeadingZeros 4 = .ok (.l2i, 1) := dk_136 (dk_at dksJ24_numberOfLeadingZeros_0 4 rfl rfl)
theorem dJ24_numberOfLeadingZeros_5 : decode cJ24_numberOfLeadingZeros 5 = .ok (.istore_n 2, 1) := dk_61 (dk_at dksJ24_numberOfLeadingZeros_0 5 rfl rfl)
theorem dJ24_numberOfLeadingZeros_6 : decode cJ24_numberOfLeadingZeros 6 = .ok (.iload_n 2, 1) := dk_28 (dk_at dksJ24_numberOfLeadingZeros_0 6 rfl rfl)
theorem dJ24_numberOfLeadingZeros_7 : decode cJ24_numberOfLeadingZeros 7 = .ok (.ifCond .ne 14, 3) := dk_154 0 14 (dk_at dksJ24_numberOfLeadingZeros_0 7 rfl rfl)
theorem dJ24_numberOfLeadingZeros_10 : decode cJ24_numberOfLeadingZeros 10 = .ok (.bipush 32, 2) := dk_16 32 (dk_at dksJ24_numberOfLeadingZeros_0 10 rfl rfl)
theorem dJ24_numberOfLeadingZeros_12 : decode cJ24_numberOfLeadingZeros 12 = .ok (.lload_n 0, 1) := dk_30 (dk_at dksJ24_numberOfLeadingZeros_0 12 rfl rfl)
theorem dJ24_numberOfLeadingZeros_13 : decode cJ24_numberOfLeadingZeros 13 = .ok (.l2i, 1) := dk_136 (dk_at dksJ24_numberOfLeadingZeros_0 13 rfl rfl)
theorem dJ24_numberOfLeadingZeros_14 : decode cJ24_numberOfLeadingZeros 14 = .ok (.invokestatic 308, 3) := dk_184 1 52 (dk_at dksJ24_numberOfLeadingZeros_0 14 rfl rfl)
theorem dJ24_numberOfLeadingZeros_17 : decode cJ24_numberOfLeadingZeros 17 = .ok (.iadd, 1) := dk_96 (dk_at dksJ24_numberOfLeadingZeros_0 17 rfl rfl)
theorem dJ24_numberOfLeadingZeros_18 : decode cJ24_numberOfLeadingZeros 18 = .ok (.goto 7, 3) := dk_167 0 7 (dk_at dksJ24_numberOfLeadingZeros_0 18 rfl rfl)
theorem dJ24_numberOfLeadingZeros_21 : decode cJ24_numberOfLeadingZeros 21 = .ok (.iload_n 2, 1) := dk_28 (dk_at dksJ24_numberOfLeadingZeros_0 21 rfl rfl)
theorem dJ24_numberOfLeadingZeros_22 : decode cJ24_numberOfLeadingZeros 22 = .ok (.invokestatic 308, 3) := dk_184 1 52 (dk_at dksJ24_numberOfLeadingZeros_1 0 rfl rfl)
theorem dJ24_numberOfLeadingZeros_25 : decode cJ24_numberOfLeadingZeros 25 = .ok (.ireturn, 1) := dk_172 (dk_at dksJ24_numberOfLeadingZeros_1 3 rfl rfl)
abbrev cJ24_numberOfTrailingZeros : ByteArray := prog_31_method_49_code
def yJ24_numberOfTrailingZeros : MethodName := ⟨RJ24, "numberOfTrailingZeros", "(J)I"⟩
def dkwJ24_numberOfTrailingZeros_1 : List UInt8 := [184, 1, 55, 172]
abbrev dktJ24_numberOfTrailingZeros_1 : List UInt8 := dkwJ24_numberOfTrailingZeros_1 ++ []
def dkwJ24_numberOfTrailingZeros_0 : List UInt8 := [30, 136, 61, 28, 154, 0, 17, 16, 32, 30, 16, 32, 125, 136, 184, 1, 55, 96, 167, 0, 7, 28]
abbrev dktJ24_numberOfTrailingZeros_0 : List UInt8 := dkwJ24_numberOfTrailingZeros_0 ++ dktJ24_numberOfTrailingZeros_1
theorem dksJ24_numberOfTrailingZeros_0 : cJ24_numberOfTrailingZeros.data.toList.drop 0 = dktJ24_numberOfTrailingZeros_0 := by decide +kernel
theorem dksJ24_numberOfTrailingZeros_1 : cJ24_numberOfTrailingZeros.data.toList.drop 22 = dktJ24_numberOfTrailingZeros_1 := dk_seg dksJ24_numberOfTrailingZeros_0 22 rfl rfl
theorem dJ24_numberOfTrailingZeros_0 : decode cJ24_numberOfTrailingZeros 0 = .ok (.lload_n 0, 1) := dk_30 (dk_at dksJ24_numberOfTrailingZeros_0 0 rfl rfl)
theorem dJ24_numberOfTrailingZeros_1 : decode cJ24_numberOfTrailingZeros 1 = .ok (.l2i, 1) := dk_136 (dk_at dksJ24_numberOfTrailingZeros_0 1 rfl rfl)
theorem dJ24_numberOfTrailingZeros_2 : decode cJ24_numberOfTrailingZeros 2 = .ok (.istore_n 2, 1) := dk_61 (dk_at dksJ24_numberOfTrailingZeros_0 2 rfl rfl)
theorem dJ24_numberOfTrailingZeros_3 : decode cJ24_numberOfTrailingZeros 3 = .ok (.iload_n 2, 1) := dk_28 (dk_at dksJ24_numberOfTrailingZeros_0 3 rfl rfl)
theorem dJ24_numberOfTrailingZeros_4 : decode cJ24_numberOfTrailingZeros 4 = .ok (.ifCond .ne 17, 3) := dk_154 0 17 (dk_at dksJ24_numberOfTrailingZeros_0 4 rfl rfl)
theorem dJ24_numberOfTrailingZeros_7 : decode cJ24_numberOfTrailingZeros 7 = .ok (.bipush 32, 2) := dk_16 32 (dk_at dksJ24_numberOfTrailingZeros_0 7 rfl rfl)
theorem dJ24_numberOfTrailingZeros_9 : decode cJ24_numberOfTrailingZeros 9 = .ok (.lload_n 0, 1) := dk_30 (dk_at dksJ24_numberOfTrailingZeros_0 9 rfl rfl)
theorem dJ24_numberOfTrailingZeros_10 : decode cJ24_numberOfTrailingZeros 10 = .ok (.bipush 32, 2) := dk_16 32 (dk_at dksJ24_numberOfTrailingZeros_0 10 rfl rfl)
theorem dJ24_numberOfTrailingZeros_12 : decode cJ24_numberOfTrailingZeros 12 = .ok (.lushr, 1) := dk_125 (dk_at dksJ24_numberOfTrailingZeros_0 12 rfl rfl)
theorem dJ24_numberOfTrailingZeros_13 : decode cJ24_numberOfTrailingZeros 13 = .ok (.l2i, 1) := dk_136 (dk_at dksJ24_numberOfTrailingZeros_0 13 rfl rfl)
theorem dJ24_numberOfTrailingZeros_14 : decode cJ24_numberOfTrailingZeros 14 = .ok (.invokestatic 311, 3) := dk_184 1 55 (dk_at dksJ24_numberOfTrailingZeros_0 14 rfl rfl)
theorem dJ24_numberOfTrailingZeros_17 : decode cJ24_numberOfTrailingZeros 17 = .ok (.iadd, 1) := dk_96 (dk_at dksJ24_numberOfTrailingZeros_0 17 rfl rfl)
theorem dJ24_numberOfTrailingZeros_18 : decode cJ24_numberOfTrailingZeros 18 = .ok (.goto 7, 3) := dk_167 0 7 (dk_at dksJ24_numberOfTrailingZeros_0 18 rfl rfl)
theorem dJ24_numberOfTrailingZeros_21 : decode cJ24_numberOfTrailingZeros 21 = .ok (.iload_n 2, 1) := dk_28 (dk_at dksJ24_numberOfTrailingZeros_0 21 rfl rfl)
theorem dJ24_numberOfTrailingZeros_22 : decode cJ24_numberOfTrailingZeros 22 = .ok (.invokestatic 311, 3) := dk_184 1 55 (dk_at dksJ24_numberOfTrailingZeros_1 0 rfl rfl)
theorem dJ24_numberOfTrailingZeros_25 : decode cJ24_numberOfTrailingZeros 25 = .ok (.ireturn, 1) := dk_172 (dk_at dksJ24_numberOfTrailingZeros_1 3 rfl rfl)
abbrev cJ24_stringSize : ByteArray := prog_31_method_15_code
def yJ24_stringSize : MethodName := ⟨RJ24, "stringSize", "(J)I"⟩
def dkwJ24_stringSize_2 : List UInt8 := [167, 255, 229, 16, 19, 28, 96, 172]
abbrev dktJ24_stringSize_2 : List UInt8 := dkwJ24_stringSize_2 ++ []
def dkwJ24_stringSize_1 : List UInt8 := [162, 0, 26, 30, 33, 148, 158, 0, 8, 21, 5, 28, 96, 172, 20, 0, 53, 33, 105, 66, 132, 5, 1]
abbrev dktJ24_stringSize_1 : List UInt8 := dkwJ24_stringSize_1 ++ dktJ24_stringSize_2
def dkwJ24_stringSize_0 : List UInt8 := [4, 61, 30, 9, 148, 155, 0, 8, 3, 61, 30, 117, 63, 20, 0, 140, 66, 4, 54, 5, 21, 5, 16, 19]
abbrev dktJ24_stringSize_0 : List UInt8 := dkwJ24_stringSize_0 ++ dktJ24_stringSize_1
theorem dksJ24_stringSize_0 : cJ24_stringSize.data.toList.drop 0 = dktJ24_stringSize_0 := by decide +kernel
theorem dksJ24_stringSize_1 : cJ24_stringSize.data.toList.drop 24 = dktJ24_stringSize_1 := dk_seg dksJ24_stringSize_0 24 rfl rfl
theorem dksJ24_stringSize_2 : cJ24_stringSize.data.toList.drop 47 = dktJ24_stringSize_2 := dk_seg dksJ24_stringSize_1 23 rfl rfl
theorem dJ24_stringSize_0 : decode cJ24_stringSize 0 = .ok (.iconst 1, 1) := dk_4 (dk_at dksJ24_stringSize_0 0 rfl rfl)
theorem dJ24_stringSize_1 : decode cJ24_stringSize 1 = .ok (.istore_n 2, 1) := dk_61 (dk_at dksJ24_stringSize_0 1 rfl rfl)
theorem dJ24_stringSize_2 : decode cJ24_stringSize 2 = .ok (.lload_n 0, 1) := dk_30 (dk_at dksJ24_stringSize_0 2 rfl rfl)
theorem dJ24_stringSize_3 : decode cJ24_stringSize 3 = .ok (.lconst 0, 1) := dk_9 (dk_at dksJ24_stringSize_0 3 rfl rfl)
theorem dJ24_stringSize_4 : decode cJ24_stringSize 4 = .ok (.lcmp, 1) := dk_148 (dk_at dksJ24_stringSize_0 4 rfl rfl)
theorem dJ24_stringSize_5 : decode cJ24_stringSize 5 = .ok (.ifCond .lt 8, 3) := dk_155 0 8 (dk_at dksJ24_stringSize_0 5 rfl rfl)
theorem dJ24_stringSize_8 : decode cJ24_stringSize 8 = .ok (.iconst 0, 1) := dk_3 (dk_at dksJ24_stringSize_0 8 rfl rfl)
theorem dJ24_stringSize_9 : decode cJ24_stringSize 9 = .ok (.istore_n 2, 1) := dk_61 (dk_at dksJ24_stringSize_0 9 rfl rfl)
theorem dJ24_stringSize_10 : decode cJ24_stringSize 10 = .ok (.lload_n 0, 1) := dk_30 (dk_at dksJ24_stringSize_0 10 rfl rfl)
theorem dJ24_stringSize_11 : decode cJ24_stringSize 11 = .ok (.lneg, 1) := dk_117 (dk_at dksJ24_stringSize_0 11 rfl rfl)
theorem dJ24_stringSize_12 : decode cJ24_stringSize 12 = .ok (.lstore_n 0, 1) := dk_63 (dk_at dksJ24_stringSize_0 12 rfl rfl)
theorem dJ24_stringSize_13 : decode cJ24_stringSize 13 = .ok (.ldc2_w 140, 3) := dk_20 0 140 (dk_at dksJ24_stringSize_0 13 rfl rfl)
theorem dJ24_stringSize_16 : decode cJ24_stringSize 16 = .ok (.lstore_n 3, 1) := dk_66 (dk_at dksJ24_stringSize_0 16 rfl rfl)
theorem dJ24_stringSize_17 : decode cJ24_stringSize 17 = .ok (.iconst 1, 1) := dk_4 (dk_at dksJ24_stringSize_0 17 rfl rfl)
theorem dJ24_stringSize_18 : decode cJ24_stringSize 18 = .ok (.istore 5, 2) := dk_54 5 (dk_at dksJ24_stringSize_0 18 rfl rfl)
theorem dJ24_stringSize_20 : decode cJ24_stringSize 20 = .ok (.iload 5, 2) := dk_21 5 (dk_at dksJ24_stringSize_0 20 rfl rfl)
theorem dJ24_stringSize_22 : decode cJ24_stringSize 22 = .ok (.bipush 19, 2) := dk_16 19 (dk_at dksJ24_stringSize_0 22 rfl rfl)
theorem dJ24_stringSize_24 : decode cJ24_stringSize 24 = .ok (.if_icmp .ge 26, 3) := dk_162 0 26 (dk_at dksJ24_stringSize_1 0 rfl rfl)
theorem dJ24_stringSize_27 : decode cJ24_stringSize 27 = .ok (.lload_n 0, 1) := dk_30 (dk_at dksJ24_stringSize_1 3 rfl rfl)
theorem dJ24_stringSize_28 : decode cJ24_stringSize 28 = .ok (.lload_n 3, 1) := dk_33 (dk_at dksJ24_stringSize_1 4 rfl rfl)
theorem dJ24_stringSize_29 : decode cJ24_stringSize 29 = .ok (.lcmp, 1) := dk_148 (dk_at dksJ24_stringSize_1 5 rfl rfl)
theorem dJ24_stringSize_30 : decode cJ24_stringSize 30 = .ok (.ifCond .le 8, 3) := dk_158 0 8 (dk_at dksJ24_stringSize_1 6 rfl rfl)
theorem dJ24_stringSize_33 : decode cJ24_stringSize 33 = .ok (.iload 5, 2) := dk_21 5 (dk_at dksJ24_stringSize_1 9 rfl rfl)
theorem dJ24_stringSize_35 : decode cJ24_stringSize 35 = .ok (.iload_n 2, 1) := dk_28 (dk_at dksJ24_stringSize_1 11 rfl rfl)
theorem dJ24_stringSize_36 : decode cJ24_stringSize 36 = .ok (.iadd, 1) := dk_96 (dk_at dksJ24_stringSize_1 12 rfl rfl)
theorem dJ24_stringSize_37 : decode cJ24_stringSize 37 = .ok (.ireturn, 1) := dk_172 (dk_at dksJ24_stringSize_1 13 rfl rfl)
theorem dJ24_stringSize_38 : decode cJ24_stringSize 38 = .ok (.ldc2_w 53, 3) := dk_20 0 53 (dk_at dksJ24_stringSize_1 14 rfl rfl)
theorem dJ24_stringSize_41 : decode cJ24_stringSize 41 = .ok (.lload_n 3, 1) := dk_33 (dk_at dksJ24_stringSize_1 17 rfl rfl)
theorem dJ24_stringSize_42 : decode cJ24_stringSize 42 = .ok (.lmul, 1) := dk_105 (dk_at dksJ24_stringSize_1 18 rfl rfl)
theorem dJ24_stringSize_43 : decode cJ24_stringSize 43 = .ok (.lstore_n 3, 1) := dk_66 (dk_at dksJ24_stringSize_1 19 rfl rfl)
theorem dJ24_stringSize_44 : decode cJ24_stringSize 44 = .ok (.iinc 5 1, 3) := dk_132 5 1 (dk_at dksJ24_stringSize_1 20 rfl rfl)
theorem dJ24_stringSize_47 : decode cJ24_stringSize 47 = .ok (.goto (-27), 3) := dk_167 255 229 (dk_at dksJ24_stringSize_2 0 rfl rfl)
theorem dJ24_stringSize_50 : decode cJ24_stringSize 50 = .ok (.bipush 19, 2) := dk_16 19 (dk_at dksJ24_stringSize_2 3 rfl rfl)
theorem dJ24_stringSize_52 : decode cJ24_stringSize 52 = .ok (.iload_n 2, 1) := dk_28 (dk_at dksJ24_stringSize_2 5 rfl rfl)
theorem dJ24_stringSize_53 : decode cJ24_stringSize 53 = .ok (.iadd, 1) := dk_96 (dk_at dksJ24_stringSize_2 6 rfl rfl)
theorem dJ24_stringSize_54 : decode cJ24_stringSize 54 = .ok (.ireturn, 1) := dk_172 (dk_at dksJ24_stringSize_2 7 rfl rfl)
abbrev cJ24_getChars : ByteArray := prog_31_method_14_code
def yJ24_getChars : MethodName := ⟨RJ24, "getChars", "(JI[B)I"⟩
def dkwJ24_getChars_8 : List UInt8 := [21, 7, 16, 45, 84, 21, 7, 172]
abbrev dktJ24_getChars_8 : List UInt8 := dkwJ24_getChars_8 ++ []
def dkwJ24_getChars_7 : List UInt8 := [45, 132, 7, 255, 21, 7, 178, 0, 137, 21, 10, 116, 51, 84, 21, 8, 153, 0, 12, 45, 132, 7, 255]
abbrev dktJ24_getChars_7 : List UInt8 := dkwJ24_getChars_7 ++ dktJ24_getChars_8
def dkwJ24_getChars_6 : List UInt8 := [167, 255, 202, 45, 132, 7, 255, 21, 7, 178, 0, 133, 21, 10, 116, 51, 84, 21, 10, 16, 247, 162, 0, 17]
abbrev dktJ24_getChars_6 : List UInt8 := dkwJ24_getChars_6 ++ dktJ24_getChars_7
def dkwJ24_getChars_5 : List UInt8 := [21, 7, 178, 0, 133, 21, 6, 51, 84, 45, 132, 7, 255, 21, 7, 178, 0, 137, 21, 6, 51, 84]
abbrev dktJ24_getChars_5 : List UInt8 := dkwJ24_getChars_5 ++ dktJ24_getChars_6
def dkwJ24_getChars_4 : List UInt8 := [16, 100, 108, 54, 9, 21, 9, 16, 100, 104, 21, 10, 100, 54, 6, 21, 9, 54, 10, 45, 132, 7, 255]
abbrev dktJ24_getChars_4 : List UInt8 := dkwJ24_getChars_4 ++ dktJ24_getChars_5
def dkwJ24_getChars_3 : List UInt8 := [178, 0, 137, 21, 6, 51, 84, 167, 255, 201, 30, 136, 54, 10, 21, 10, 16, 156, 163, 0, 53, 21, 10]
abbrev dktJ24_getChars_3 : List UInt8 := dkwJ24_getChars_3 ++ dktJ24_getChars_4
def dkwJ24_getChars_2 : List UInt8 := [54, 6, 22, 4, 63, 45, 132, 7, 255, 21, 7, 178, 0, 133, 21, 6, 51, 84, 45, 132, 7, 255, 21, 7]
abbrev dktJ24_getChars_2 : List UInt8 := dkwJ24_getChars_2 ++ dktJ24_getChars_3
def dkwJ24_getChars_1 : List UInt8 := [30, 20, 0, 129, 148, 157, 0, 53, 30, 20, 0, 131, 109, 55, 4, 22, 4, 20, 0, 131, 105, 30, 101, 136]
abbrev dktJ24_getChars_1 : List UInt8 := dkwJ24_getChars_1 ++ dktJ24_getChars_2
def dkwJ24_getChars_0 : List UInt8 := [28, 54, 7, 30, 9, 148, 156, 0, 7, 4, 167, 0, 4, 3, 54, 8, 21, 8, 154, 0, 6, 30, 117, 63]
abbrev dktJ24_getChars_0 : List UInt8 := dkwJ24_getChars_0 ++ dktJ24_getChars_1
theorem dksJ24_getChars_0 : cJ24_getChars.data.toList.drop 0 = dktJ24_getChars_0 := by decide +kernel
theorem dksJ24_getChars_1 : cJ24_getChars.data.toList.drop 24 = dktJ24_getChars_1 := dk_seg dksJ24_getChars_0 24 rfl rfl
theorem dksJ24_getChars_2 : cJ24_getChars.data.toList.drop 48 = dktJ24_getChars_2 := dk_seg dksJ24_getChars_1 24 rfl rfl
theorem dksJ24_getChars_3 : cJ24_getChars.data.toList.drop 72 = dktJ24_getChars_3 := dk_seg dksJ24_getChars_2 24 rfl rfl
theorem dksJ24_getChars_4 : cJ24_getChars.data.toList.drop 95 = dktJ24_getChars_4 := dk_seg dksJ24_getChars_3 23 rfl rfl
theorem dksJ24_getChars_5 : cJ24_getChars.data.toList.drop 118 = dktJ24_getChars_5 := dk_seg dksJ24_getChars_4 23 rfl rfl
theorem dksJ24_getChars_6 : cJ24_getChars.data.toList.drop 140 = dktJ24_getChars_6 := dk_seg dksJ24_getChars_5 22 rfl rfl
theorem dksJ24_getChars_7 : cJ24_getChars.data.toList.drop 164 = dktJ24_getChars_7 := dk_seg dksJ24_getChars_6 24 rfl rfl
theorem dksJ24_getChars_8 : cJ24_getChars.data.toList.drop 187 = dktJ24_getChars_8 := dk_seg dksJ24_getChars_7 23 rfl rfl
theorem dJ24_getChars_0 : decode cJ24_getChars 0 = .ok (.iload_n 2, 1) := dk_28 (dk_at dksJ24_getChars_0 0 rfl rfl)
theorem dJ24_getChars_1 : decode cJ24_getChars 1 = .ok (.istore 7, 2) := dk_54 7 (dk_at dksJ24_getChars_0 1 rfl rfl)
theorem dJ24_getChars_3 : decode cJ24_getChars 3 = .ok (.lload_n 0, 1) := dk_30 (dk_at dksJ24_getChars_0 3 rfl rfl)
theorem dJ24_getChars_4 : decode cJ24_getChars 4 = .ok (.lconst 0, 1) := dk_9 (dk_at dksJ24_getChars_0 4 rfl rfl)
theorem dJ24_getChars_5 : decode cJ24_getChars 5 = .ok (.lcmp, 1) := dk_148 (dk_at dksJ24_getChars_0 5 rfl rfl)
theorem dJ24_getChars_6 : decode cJ24_getChars 6 = .ok (.ifCond .ge 7, 3) := dk_156 0 7 (dk_at dksJ24_getChars_0 6 rfl rfl)
theorem dJ24_getChars_9 : decode cJ24_getChars 9 = .ok (.iconst 1, 1) := dk_4 (dk_at dksJ24_getChars_0 9 rfl rfl)
theorem dJ24_getChars_10 : decode cJ24_getChars 10 = .ok (.goto 4, 3) := dk_167 0 4 (dk_at dksJ24_getChars_0 10 rfl rfl)
theorem dJ24_getChars_13 : decode cJ24_getChars 13 = .ok (.iconst 0, 1) := dk_3 (dk_at dksJ24_getChars_0 13 rfl rfl)
theorem dJ24_getChars_14 : decode cJ24_getChars 14 = .ok (.istore 8, 2) := dk_54 8 (dk_at dksJ24_getChars_0 14 rfl rfl)
theorem dJ24_getChars_16 : decode cJ24_getChars 16 = .ok (.iload 8, 2) := dk_21 8 (dk_at dksJ24_getChars_0 16 rfl rfl)
theorem dJ24_getChars_18 : decode cJ24_getChars 18 = .ok (.ifCond .ne 6, 3) := dk_154 0 6 (dk_at dksJ24_getChars_0 18 rfl rfl)
theorem dJ24_getChars_21 : decode cJ24_getChars 21 = .ok (.lload_n 0, 1) := dk_30 (dk_at dksJ24_getChars_0 21 rfl rfl)
theorem dJ24_getChars_22 : decode cJ24_getChars 22 = .ok (.lneg, 1) := dk_117 (dk_at dksJ24_getChars_0 22 rfl rfl)
theorem dJ24_getChars_23 : decode cJ24_getChars 23 = .ok (.lstore_n 0, 1) := dk_63 (dk_at dksJ24_getChars_0 23 rfl rfl)
theorem dJ24_getChars_24 : decode cJ24_getChars 24 = .ok (.lload_n 0, 1) := dk_30 (dk_at dksJ24_getChars_1 0 rfl rfl)
theorem dJ24_getChars_25 : decode cJ24_getChars 25 = .ok (.ldc2_w 129, 3) := dk_20 0 129 (dk_at dksJ24_getChars_1 1 rfl rfl)
theorem dJ24_getChars_28 : decode cJ24_getChars 28 = .ok (.lcmp, 1) := dk_148 (dk_at dksJ24_getChars_1 4 rfl rfl)
theorem dJ24_getChars_29 : decode cJ24_getChars 29 = .ok (.ifCond .gt 53, 3) := dk_157 0 53 (dk_at dksJ24_getChars_1 5 rfl rfl)
theorem dJ24_getChars_32 : decode cJ24_getChars 32 = .ok (.lload_n 0, 1) := dk_30 (dk_at dksJ24_getChars_1 8 rfl rfl)
theorem dJ24_getChars_33 : decode cJ24_getChars 33 = .ok (.ldc2_w 131, 3) := dk_20 0 131 (dk_at dksJ24_getChars_1 9 rfl rfl)
theorem dJ24_getChars_36 : decode cJ24_getChars 36 = .ok (.ldiv, 1) := dk_109 (dk_at dksJ24_getChars_1 12 rfl rfl)
theorem dJ24_getChars_37 : decode cJ24_getChars 37 = .ok (.lstore 4, 2) := dk_55 4 (dk_at dksJ24_getChars_1 13 rfl rfl)
theorem dJ24_getChars_39 : decode cJ24_getChars 39 = .ok (.lload 4, 2) := dk_22 4 (dk_at dksJ24_getChars_1 15 rfl rfl)
theorem dJ24_getChars_41 : decode cJ24_getChars 41 = .ok (.ldc2_w 131, 3) := dk_20 0 131 (dk_at dksJ24_getChars_1 17 rfl rfl)
theorem dJ24_getChars_44 : decode cJ24_getChars 44 = .ok (.lmul, 1) := dk_105 (dk_at dksJ24_getChars_1 20 rfl rfl)
theorem dJ24_getChars_45 : decode cJ24_getChars 45 = .ok (.lload_n 0, 1) := dk_30 (dk_at dksJ24_getChars_1 21 rfl rfl)
theorem dJ24_getChars_46 : decode cJ24_getChars 46 = .ok (.lsub, 1) := dk_101 (dk_at dksJ24_getChars_1 22 rfl rfl)
theorem dJ24_getChars_47 : decode cJ24_getChars 47 = .ok (.l2i, 1) := dk_136 (dk_at dksJ24_getChars_1 23 rfl rfl)
theorem dJ24_getChars_48 : decode cJ24_getChars 48 = .ok (.istore 6, 2) := dk_54 6 (dk_at dksJ24_getChars_2 0 rfl rfl)
theorem dJ24_getChars_50 : decode cJ24_getChars 50 = .ok (.lload 4, 2) := dk_22 4 (dk_at dksJ24_getChars_2 2 rfl rfl)
theorem dJ24_getChars_52 : decode cJ24_getChars 52 = .ok (.lstore_n 0, 1) := dk_63 (dk_at dksJ24_getChars_2 4 rfl rfl)
theorem dJ24_getChars_53 : decode cJ24_getChars 53 = .ok (.aload_n 3, 1) := dk_45 (dk_at dksJ24_getChars_2 5 rfl rfl)
theorem dJ24_getChars_54 : decode cJ24_getChars 54 = .ok (.iinc 7 (-1), 3) := dk_132 7 255 (dk_at dksJ24_getChars_2 6 rfl rfl)
theorem dJ24_getChars_57 : decode cJ24_getChars 57 = .ok (.iload 7, 2) := dk_21 7 (dk_at dksJ24_getChars_2 9 rfl rfl)
theorem dJ24_getChars_59 : decode cJ24_getChars 59 = .ok (.getstatic 133, 3) := dk_178 0 133 (dk_at dksJ24_getChars_2 11 rfl rfl)
theorem dJ24_getChars_62 : decode cJ24_getChars 62 = .ok (.iload 6, 2) := dk_21 6 (dk_at dksJ24_getChars_2 14 rfl rfl)
theorem dJ24_getChars_64 : decode cJ24_getChars 64 = .ok (.baload, 1) := dk_51 (dk_at dksJ24_getChars_2 16 rfl rfl)
theorem dJ24_getChars_65 : decode cJ24_getChars 65 = .ok (.bastore, 1) := dk_84 (dk_at dksJ24_getChars_2 17 rfl rfl)
theorem dJ24_getChars_66 : decode cJ24_getChars 66 = .ok (.aload_n 3, 1) := dk_45 (dk_at dksJ24_getChars_2 18 rfl rfl)
theorem dJ24_getChars_67 : decode cJ24_getChars 67 = .ok (.iinc 7 (-1), 3) := dk_132 7 255 (dk_at dksJ24_getChars_2 19 rfl rfl)
theorem dJ24_getChars_70 : decode cJ24_getChars 70 = .ok (.iload 7, 2) := dk_21 7 (dk_at dksJ24_getChars_2 22 rfl rfl)
theorem dJ24_getChars_72 : decode cJ24_getChars 72 = .ok (.getstatic 137, 3) := dk_178 0 137 (dk_at dksJ24_getChars_3 0 rfl rfl)
theorem dJ24_getChars_75 : decode cJ24_getChars 75 = .ok (.iload 6, 2) := dk_21 6 (dk_at dksJ24_getChars_3 3 rfl rfl)
theorem dJ24_getChars_77 : decode cJ24_getChars 77 = .ok (.baload, 1) := dk_51 (dk_at dksJ24_getChars_3 5 rfl rfl)
theorem dJ24_getChars_78 : decode cJ24_getChars 78 = .ok (.bastore, 1) := dk_84 (dk_at dksJ24_getChars_3 6 rfl rfl)
theorem dJ24_getChars_79 : decode cJ24_getChars 79 = .ok (.goto (-55), 3) := dk_167 255 201 (dk_at dksJ24_getChars_3 7 rfl rfl)
theorem dJ24_getChars_82 : decode cJ24_getChars 82 = .ok (.lload_n 0, 1) := dk_30 (dk_at dksJ24_getChars_3 10 rfl rfl)
theorem dJ24_getChars_83 : decode cJ24_getChars 83 = .ok (.l2i, 1) := dk_136 (dk_at dksJ24_getChars_3 11 rfl rfl)
theorem dJ24_getChars_84 : decode cJ24_getChars 84 = .ok (.istore 10, 2) := dk_54 10 (dk_at dksJ24_getChars_3 12 rfl rfl)
theorem dJ24_getChars_86 : decode cJ24_getChars 86 = .ok (.iload 10, 2) := dk_21 10 (dk_at dksJ24_getChars_3 14 rfl rfl)
theorem dJ24_getChars_88 : decode cJ24_getChars 88 = .ok (.bipush (-100), 2) := dk_16 156 (dk_at dksJ24_getChars_3 16 rfl rfl)
theorem dJ24_getChars_90 : decode cJ24_getChars 90 = .ok (.if_icmp .gt 53, 3) := dk_163 0 53 (dk_at dksJ24_getChars_3 18 rfl rfl)
theorem dJ24_getChars_93 : decode cJ24_getChars 93 = .ok (.iload 10, 2) := dk_21 10 (dk_at dksJ24_getChars_3 21 rfl rfl)
theorem dJ24_getChars_95 : decode cJ24_getChars 95 = .ok (.bipush 100, 2) := dk_16 100 (dk_at dksJ24_getChars_4 0 rfl rfl)
theorem dJ24_getChars_97 : decode cJ24_getChars 97 = .ok (.idiv, 1) := dk_108 (dk_at dksJ24_getChars_4 2 rfl rfl)
theorem dJ24_getChars_98 : decode cJ24_getChars 98 = .ok (.istore 9, 2) := dk_54 9 (dk_at dksJ24_getChars_4 3 rfl rfl)
theorem dJ24_getChars_100 : decode cJ24_getChars 100 = .ok (.iload 9, 2) := dk_21 9 (dk_at dksJ24_getChars_4 5 rfl rfl)
theorem dJ24_getChars_102 : decode cJ24_getChars 102 = .ok (.bipush 100, 2) := dk_16 100 (dk_at dksJ24_getChars_4 7 rfl rfl)
theorem dJ24_getChars_104 : decode cJ24_getChars 104 = .ok (.imul, 1) := dk_104 (dk_at dksJ24_getChars_4 9 rfl rfl)
theorem dJ24_getChars_105 : decode cJ24_getChars 105 = .ok (.iload 10, 2) := dk_21 10 (dk_at dksJ24_getChars_4 10 rfl rfl)
theorem dJ24_getChars_107 : decode cJ24_getChars 107 = .ok (.isub, 1) := dk_100 (dk_at dksJ24_getChars_4 12 rfl rfl)
theorem dJ24_getChars_108 : decode cJ24_getChars 108 = .ok (.istore 6, 2) := dk_54 6 (dk_at dksJ24_getChars_4 13 rfl rfl)
theorem dJ24_getChars_110 : decode cJ24_getChars 110 = .ok (.iload 9, 2) := dk_21 9 (dk_at dksJ24_getChars_4 15 rfl rfl)
theorem dJ24_getChars_112 : decode cJ24_getChars 112 = .ok (.istore 10, 2) := dk_54 10 (dk_at dksJ24_getChars_4 17 rfl rfl)
theorem dJ24_getChars_114 : decode cJ24_getChars 114 = .ok (.aload_n 3, 1) := dk_45 (dk_at dksJ24_getChars_4 19 rfl rfl)
theorem dJ24_getChars_115 : decode cJ24_getChars 115 = .ok (.iinc 7 (-1), 3) := dk_132 7 255 (dk_at dksJ24_getChars_4 20 rfl rfl)
theorem dJ24_getChars_118 : decode cJ24_getChars 118 = .ok (.iload 7, 2) := dk_21 7 (dk_at dksJ24_getChars_5 0 rfl rfl)
theorem dJ24_getChars_120 : decode cJ24_getChars 120 = .ok (.getstatic 133, 3) := dk_178 0 133 (dk_at dksJ24_getChars_5 2 rfl rfl)
theorem dJ24_getChars_123 : decode cJ24_getChars 123 = .ok (.iload 6, 2) := dk_21 6 (dk_at dksJ24_getChars_5 5 rfl rfl)
theorem dJ24_getChars_125 : decode cJ24_getChars 125 = .ok (.baload, 1) := dk_51 (dk_at dksJ24_getChars_5 7 rfl rfl)
theorem dJ24_getChars_126 : decode cJ24_getChars 126 = .ok (.bastore, 1) := dk_84 (dk_at dksJ24_getChars_5 8 rfl rfl)
theorem dJ24_getChars_127 : decode cJ24_getChars 127 = .ok (.aload_n 3, 1) := dk_45 (dk_at dksJ24_getChars_5 9 rfl rfl)
theorem dJ24_getChars_128 : decode cJ24_getChars 128 = .ok (.iinc 7 (-1), 3) := dk_132 7 255 (dk_at dksJ24_getChars_5 10 rfl rfl)
theorem dJ24_getChars_131 : decode cJ24_getChars 131 = .ok (.iload 7, 2) := dk_21 7 (dk_at dksJ24_getChars_5 13 rfl rfl)
theorem dJ24_getChars_133 : decode cJ24_getChars 133 = .ok (.getstatic 137, 3) := dk_178 0 137 (dk_at dksJ24_getChars_5 15 rfl rfl)
theorem dJ24_getChars_136 : decode cJ24_getChars 136 = .ok (.iload 6, 2) := dk_21 6 (dk_at dksJ24_getChars_5 18 rfl rfl)
theorem dJ24_getChars_138 : decode cJ24_getChars 138 = .ok (.baload, 1) := dk_51 (dk_at dksJ24_getChars_5 20 rfl rfl)
theorem dJ24_getChars_139 : decode cJ24_getChars 139 = .ok (.bastore, 1) := dk_84 (dk_at dksJ24_getChars_5 21 rfl rfl)
theorem dJ24_getChars_140 : decode cJ24_getChars 140 = .ok (.goto (-54), 3) := dk_167 255 202 (dk_at dksJ24_getChars_6 0 rfl rfl)
theorem dJ24_getChars_143 : decode cJ24_getChars 143 = .ok (.aload_n 3, 1) := dk_45 (dk_at dksJ24_getChars_6 3 rfl rfl)
theorem dJ24_getChars_144 : decode cJ24_getChars 144 = .ok (.iinc 7 (-1), 3) := dk_132 7 255 (dk_at dksJ24_getChars_6 4 rfl rfl)
theorem dJ24_getChars_147 : decode cJ24_getChars 147 = .ok (.iload 7, 2) := dk_21 7 (dk_at dksJ24_getChars_6 7 rfl rfl)
theorem dJ24_getChars_149 : decode cJ24_getChars 149 = .ok (.getstatic 133, 3) := dk_178 0 133 (dk_at dksJ24_getChars_6 9 rfl rfl)
theorem dJ24_getChars_152 : decode cJ24_getChars 152 = .ok (.iload 10, 2) := dk_21 10 (dk_at dksJ24_getChars_6 12 rfl rfl)
theorem dJ24_getChars_154 : decode cJ24_getChars 154 = .ok (.ineg, 1) := dk_116 (dk_at dksJ24_getChars_6 14 rfl rfl)
theorem dJ24_getChars_155 : decode cJ24_getChars 155 = .ok (.baload, 1) := dk_51 (dk_at dksJ24_getChars_6 15 rfl rfl)
theorem dJ24_getChars_156 : decode cJ24_getChars 156 = .ok (.bastore, 1) := dk_84 (dk_at dksJ24_getChars_6 16 rfl rfl)
theorem dJ24_getChars_157 : decode cJ24_getChars 157 = .ok (.iload 10, 2) := dk_21 10 (dk_at dksJ24_getChars_6 17 rfl rfl)
theorem dJ24_getChars_159 : decode cJ24_getChars 159 = .ok (.bipush (-9), 2) := dk_16 247 (dk_at dksJ24_getChars_6 19 rfl rfl)
theorem dJ24_getChars_161 : decode cJ24_getChars 161 = .ok (.if_icmp .ge 17, 3) := dk_162 0 17 (dk_at dksJ24_getChars_6 21 rfl rfl)
theorem dJ24_getChars_164 : decode cJ24_getChars 164 = .ok (.aload_n 3, 1) := dk_45 (dk_at dksJ24_getChars_7 0 rfl rfl)
theorem dJ24_getChars_165 : decode cJ24_getChars 165 = .ok (.iinc 7 (-1), 3) := dk_132 7 255 (dk_at dksJ24_getChars_7 1 rfl rfl)
theorem dJ24_getChars_168 : decode cJ24_getChars 168 = .ok (.iload 7, 2) := dk_21 7 (dk_at dksJ24_getChars_7 4 rfl rfl)
theorem dJ24_getChars_170 : decode cJ24_getChars 170 = .ok (.getstatic 137, 3) := dk_178 0 137 (dk_at dksJ24_getChars_7 6 rfl rfl)
theorem dJ24_getChars_173 : decode cJ24_getChars 173 = .ok (.iload 10, 2) := dk_21 10 (dk_at dksJ24_getChars_7 9 rfl rfl)
theorem dJ24_getChars_175 : decode cJ24_getChars 175 = .ok (.ineg, 1) := dk_116 (dk_at dksJ24_getChars_7 11 rfl rfl)
theorem dJ24_getChars_176 : decode cJ24_getChars 176 = .ok (.baload, 1) := dk_51 (dk_at dksJ24_getChars_7 12 rfl rfl)
theorem dJ24_getChars_177 : decode cJ24_getChars 177 = .ok (.bastore, 1) := dk_84 (dk_at dksJ24_getChars_7 13 rfl rfl)
theorem dJ24_getChars_178 : decode cJ24_getChars 178 = .ok (.iload 8, 2) := dk_21 8 (dk_at dksJ24_getChars_7 14 rfl rfl)
theorem dJ24_getChars_180 : decode cJ24_getChars 180 = .ok (.ifCond .eq 12, 3) := dk_153 0 12 (dk_at dksJ24_getChars_7 16 rfl rfl)
theorem dJ24_getChars_183 : decode cJ24_getChars 183 = .ok (.aload_n 3, 1) := dk_45 (dk_at dksJ24_getChars_7 19 rfl rfl)
theorem dJ24_getChars_184 : decode cJ24_getChars 184 = .ok (.iinc 7 (-1), 3) := dk_132 7 255 (dk_at dksJ24_getChars_7 20 rfl rfl)
theorem dJ24_getChars_187 : decode cJ24_getChars 187 = .ok (.iload 7, 2) := dk_21 7 (dk_at dksJ24_getChars_8 0 rfl rfl)
theorem dJ24_getChars_189 : decode cJ24_getChars 189 = .ok (.bipush 45, 2) := dk_16 45 (dk_at dksJ24_getChars_8 2 rfl rfl)
theorem dJ24_getChars_191 : decode cJ24_getChars 191 = .ok (.bastore, 1) := dk_84 (dk_at dksJ24_getChars_8 4 rfl rfl)
theorem dJ24_getChars_192 : decode cJ24_getChars 192 = .ok (.iload 7, 2) := dk_21 7 (dk_at dksJ24_getChars_8 5 rfl rfl)
theorem dJ24_getChars_194 : decode cJ24_getChars 194 = .ok (.ireturn, 1) := dk_172 (dk_at dksJ24_getChars_8 7 rfl rfl)
theorem q166 : (Jvm.Cond.initialized "java/lang/Long") ∈ lw_all := lw_g (lw_at lw_m1 38 rfl) rfl
theorem q1232 : (Jvm.Cond.static ({ cls := "java/lang/Long", name := "numberOfLeadingZeros", desc := "(J)I" } : Jvm.MethodName)) ∈ lw_all := lw_g (lw_at lw_m5 144 rfl) rfl
theorem q1233 : (Jvm.Cond.code ({ cls := "java/lang/Long", name := "numberOfLeadingZeros", desc := "(J)I" } : Jvm.MethodName) prog_31_method_48_code (3 : Nat) (Option.some Jvm.ClassFile.FieldType.int)) ∈ lw_all := lw_g (lw_at lw_m5 145 rfl) rfl
theorem q1234 : (Jvm.Cond.methodLink "java/lang/Long" (308 : Nat) ({ cls := "java/lang/Integer", name := "numberOfLeadingZeros", desc := "(I)I" } : Jvm.MethodName)) ∈ lw_all := lw_g (lw_at lw_m5 146 rfl) rfl
theorem q1241 : (Jvm.Cond.static ({ cls := "java/lang/Long", name := "numberOfTrailingZeros", desc := "(J)I" } : Jvm.MethodName)) ∈ lw_all := lw_g (lw_at lw_m5 153 rfl) rfl
theorem q1242 : (Jvm.Cond.code ({ cls := "java/lang/Long", name := "numberOfTrailingZeros", desc := "(J)I" } : Jvm.MethodName) prog_31_method_49_code (3 : Nat) (Option.some Jvm.ClassFile.FieldType.int)) ∈ lw_all := lw_g (lw_at lw_m5 154 rfl) rfl
theorem q1243 : (Jvm.Cond.methodLink "java/lang/Long" (311 : Nat) ({ cls := "java/lang/Integer", name := "numberOfTrailingZeros", desc := "(I)I" } : Jvm.MethodName)) ∈ lw_all := lw_g (lw_at lw_m5 155 rfl) rfl
theorem q2510 : (Jvm.Cond.static ({ cls := "java/lang/Long", name := "stringSize", desc := "(J)I" } : Jvm.MethodName)) ∈ lw_all := lw_g (lw_at lw_m10 222 rfl) rfl
theorem q2511 : (Jvm.Cond.code ({ cls := "java/lang/Long", name := "stringSize", desc := "(J)I" } : Jvm.MethodName) prog_31_method_15_code (6 : Nat) (Option.some Jvm.ClassFile.FieldType.int)) ∈ lw_all := lw_g (lw_at lw_m10 223 rfl) rfl
theorem q2512 : (Jvm.Cond.constantLong "java/lang/Long" (140 : Nat) (-10 : Int64)) ∈ lw_all := lw_g (lw_at lw_m10 224 rfl) rfl
theorem q2513 : (Jvm.Cond.constantLong "java/lang/Long" (53 : Nat) (10 : Int64)) ∈ lw_all := lw_g (lw_at lw_m10 225 rfl) rfl
theorem q2515 : (Jvm.Cond.static ({ cls := "java/lang/Long", name := "getChars", desc := "(JI[B)I" } : Jvm.MethodName)) ∈ lw_all := lw_g (lw_at lw_m10 227 rfl) rfl
theorem q2516 : (Jvm.Cond.code ({ cls := "java/lang/Long", name := "getChars", desc := "(JI[B)I" } : Jvm.MethodName) prog_31_method_14_code (11 : Nat) (Option.some Jvm.ClassFile.FieldType.int)) ∈ lw_all := lw_g (lw_at lw_m10 228 rfl) rfl
theorem q2517 : (Jvm.Cond.constantLong "java/lang/Long" (129 : Nat) (-2147483648 : Int64)) ∈ lw_all := lw_g (lw_at lw_m10 229 rfl) rfl
theorem q2518 : (Jvm.Cond.constantLong "java/lang/Long" (131 : Nat) (100 : Int64)) ∈ lw_all := lw_g (lw_at lw_m10 230 rfl) rfl
theorem q2519 : (Jvm.Cond.fieldLink "java/lang/Long" (133 : Nat) "java/lang/Integer" "DigitOnes" "[B") ∈ lw_all := lw_g (lw_at lw_m10 231 rfl) rfl
theorem q2520 : (Jvm.Cond.fieldLink "java/lang/Long" (137 : Nat) "java/lang/Integer" "DigitTens" "[B") ∈ lw_all := lw_g (lw_at lw_m10 232 rfl) rfl
/-! java/lang/ArrayIndexOutOfBoundsException -/
set_option maxRecDepth 100000
def RJ25 : String := "java/lang/ArrayIndexOutOfBoundsException"
def TJ25 : u_T := fun k => match k with
  | 0 => ("java/lang/Throwable", "backtrace", "Ljava/lang/Object;", false)
  | 1 => ("java/lang/Throwable", "detailMessage", "Ljava/lang/String;", false)
  | 2 => ("java/lang/Throwable", "cause", "Ljava/lang/Throwable;", false)
  | 3 => ("java/lang/Throwable", "stackTrace", "[Ljava/lang/StackTraceElement;", false)
  | 4 => ("java/lang/Throwable", "depth", "I", false)
  | _ => ("java/lang/Throwable", "suppressedExceptions", "Ljava/util/List;", false)
def tyJ25 : Nat → FieldType := fun k => match k with
  | 0 => .object "java/lang/Object"
  | 1 => .object "java/lang/String"
  | 2 => .object "java/lang/Throwable"
  | 3 => .array (.object "java/lang/StackTraceElement")
  | 4 => .int
  | _ => .object "java/util/List"
abbrev wsJ250 : List Cond := u_ws RJ25 TJ25 6
theorem nmJ25 : ∀ a, a < 6 → ∀ b, b < 6 → a ≠ b → (TJ25 a).2.1 ≠ (TJ25 b).2.1 := by decide +kernel
theorem tyJ25_ok : ∀ k, k < 6 → parseFieldDescriptor (TJ25 k).2.2.1 = some (tyJ25 k) := by decide +kernel
abbrev cJ25_init : ByteArray := prog_21_method_2_code
def yJ25_init : MethodName := ⟨RJ25, "<init>", "(Ljava/lang/String;)V"⟩
def dkwJ25_init_0 : List UInt8 := [42, 43, 183, 0, 7, 177]
abbrev dktJ25_init_0 : List UInt8 := dkwJ25_init_0 ++ []
theorem dksJ25_init_0 : cJ25_init.data.toList.drop 0 = dktJ25_init_0 := by decide +kernel
theorem dJ25_init_0 : decode cJ25_init 0 = .ok (.aload_n 0, 1) := dk_42 (dk_at dksJ25_init_0 0 rfl rfl)
theorem dJ25_init_1 : decode cJ25_init 1 = .ok (.aload_n 1, 1) := dk_43 (dk_at dksJ25_init_0 1 rfl rfl)
theorem dJ25_init_2 : decode cJ25_init 2 = .ok (.invokespecial 7, 3) := dk_183 0 7 (dk_at dksJ25_init_0 2 rfl rfl)
theorem dJ25_init_5 : decode cJ25_init 5 = .ok (.return_, 1) := dk_177 (dk_at dksJ25_init_0 5 rfl rfl)
abbrev cJ25_init_2 : ByteArray := prog_21_method_3_code
def yJ25_init_2 : MethodName := ⟨RJ25, "<init>", "(I)V"⟩
def dkwJ25_init_2_0 : List UInt8 := [42, 187, 0, 10, 89, 183, 0, 12, 18, 13, 182, 0, 15, 27, 182, 0, 19, 182, 0, 22, 183, 0, 7, 177]
abbrev dktJ25_init_2_0 : List UInt8 := dkwJ25_init_2_0 ++ []
theorem dksJ25_init_2_0 : cJ25_init_2.data.toList.drop 0 = dktJ25_init_2_0 := by decide +kernel
theorem dJ25_init_2_0 : decode cJ25_init_2 0 = .ok (.aload_n 0, 1) := dk_42 (dk_at dksJ25_init_2_0 0 rfl rfl)
theorem dJ25_init_2_1 : decode cJ25_init_2 1 = .ok (.new 10, 3) := dk_187 0 10 (dk_at dksJ25_init_2_0 1 rfl rfl)
theorem dJ25_init_2_4 : decode cJ25_init_2 4 = .ok (.dup, 1) := dk_89 (dk_at dksJ25_init_2_0 4 rfl rfl)
theorem dJ25_init_2_5 : decode cJ25_init_2 5 = .ok (.invokespecial 12, 3) := dk_183 0 12 (dk_at dksJ25_init_2_0 5 rfl rfl)
theorem dJ25_init_2_8 : decode cJ25_init_2 8 = .ok (.ldc 13, 2) := dk_18 13 (dk_at dksJ25_init_2_0 8 rfl rfl)
theorem dJ25_init_2_10 : decode cJ25_init_2 10 = .ok (.invokevirtual 15, 3) := dk_182 0 15 (dk_at dksJ25_init_2_0 10 rfl rfl)
theorem dJ25_init_2_13 : decode cJ25_init_2 13 = .ok (.iload_n 1, 1) := dk_27 (dk_at dksJ25_init_2_0 13 rfl rfl)
theorem dJ25_init_2_14 : decode cJ25_init_2 14 = .ok (.invokevirtual 19, 3) := dk_182 0 19 (dk_at dksJ25_init_2_0 14 rfl rfl)
theorem dJ25_init_2_17 : decode cJ25_init_2 17 = .ok (.invokevirtual 22, 3) := dk_182 0 22 (dk_at dksJ25_init_2_0 17 rfl rfl)
theorem dJ25_init_2_20 : decode cJ25_init_2 20 = .ok (.invokespecial 7, 3) := dk_183 0 7 (dk_at dksJ25_init_2_0 20 rfl rfl)
theorem dJ25_init_2_23 : decode cJ25_init_2 23 = .ok (.return_, 1) := dk_177 (dk_at dksJ25_init_2_0 23 rfl rfl)
theorem q172 : (Jvm.Cond.initialized "java/lang/ArrayIndexOutOfBoundsException") ∈ lw_all := lw_g (lw_at lw_m1 44 rfl) rfl
theorem q240 : (Jvm.Cond.selects "java/lang/ArrayIndexOutOfBoundsException" ({ cls := "java/lang/Throwable", name := "fillInStackTrace", desc := "()Ljava/lang/Throwable;" } : Jvm.MethodName) ({ cls := "java/lang/Throwable", name := "fillInStackTrace", desc := "()Ljava/lang/Throwable;" } : Jvm.MethodName)) ∈ lw_all := lw_g (lw_at lw_m1 112 rfl) rfl
theorem q1008 : (Jvm.Cond.selects "java/lang/ArrayIndexOutOfBoundsException" ({ cls := "java/lang/Object", name := "getClass", desc := "()Ljava/lang/Class;" } : Jvm.MethodName) ({ cls := "java/lang/Object", name := "getClass", desc := "()Ljava/lang/Class;" } : Jvm.MethodName)) ∈ lw_all := lw_g (lw_at lw_m4 160 rfl) rfl
theorem q1787 : (Jvm.Cond.instantiable "java/lang/ArrayIndexOutOfBoundsException" (6 : Nat)) ∈ lw_all := lw_g (lw_at lw_m7 219 rfl) rfl
theorem q1788 : (Jvm.Cond.instanceMethod ({ cls := "java/lang/ArrayIndexOutOfBoundsException", name := "<init>", desc := "(Ljava/lang/String;)V" } : Jvm.MethodName)) ∈ lw_all := lw_g (lw_at lw_m7 220 rfl) rfl
theorem q1789 : (Jvm.Cond.code ({ cls := "java/lang/ArrayIndexOutOfBoundsException", name := "<init>", desc := "(Ljava/lang/String;)V" } : Jvm.MethodName) prog_21_method_2_code (2 : Nat) (Option.none : Option Jvm.ClassFile.FieldType)) ∈ lw_all := lw_g (lw_at lw_m7 221 rfl) rfl
theorem q1790 : (Jvm.Cond.methodLink "java/lang/ArrayIndexOutOfBoundsException" (7 : Nat) ({ cls := "java/lang/IndexOutOfBoundsException", name := "<init>", desc := "(Ljava/lang/String;)V" } : Jvm.MethodName)) ∈ lw_all := lw_g (lw_at lw_m7 222 rfl) rfl
theorem q1791 : (Jvm.Cond.lays "java/lang/ArrayIndexOutOfBoundsException" "java/lang/Throwable" "backtrace" "Ljava/lang/Object;") ∈ lw_all := lw_g (lw_at lw_m7 223 rfl) rfl
theorem q1792 : (Jvm.Cond.lays "java/lang/ArrayIndexOutOfBoundsException" "java/lang/Throwable" "detailMessage" "Ljava/lang/String;") ∈ lw_all := lw_g (lw_at lw_m7 224 rfl) rfl
theorem q1793 : (Jvm.Cond.lays "java/lang/ArrayIndexOutOfBoundsException" "java/lang/Throwable" "cause" "Ljava/lang/Throwable;") ∈ lw_all := lw_g (lw_at lw_m7 225 rfl) rfl
theorem q1794 : (Jvm.Cond.lays "java/lang/ArrayIndexOutOfBoundsException" "java/lang/Throwable" "stackTrace" "[Ljava/lang/StackTraceElement;") ∈ lw_all := lw_g (lw_at lw_m7 226 rfl) rfl
theorem q1795 : (Jvm.Cond.lays "java/lang/ArrayIndexOutOfBoundsException" "java/lang/Throwable" "depth" "I") ∈ lw_all := lw_g (lw_at lw_m7 227 rfl) rfl
theorem q1796 : (Jvm.Cond.lays "java/lang/ArrayIndexOutOfBoundsException" "java/lang/Throwable" "suppressedExceptions" "Ljava/util/List;") ∈ lw_all := lw_g (lw_at lw_m7 228 rfl) rfl
theorem q1797 : (Jvm.Cond.superclass "java/lang/ArrayIndexOutOfBoundsException" "java/lang/IndexOutOfBoundsException") ∈ lw_all := lw_g (lw_at lw_m7 229 rfl) rfl
theorem q1798 : (Jvm.Cond.castable "java/lang/ArrayIndexOutOfBoundsException" "java/lang/ArrayIndexOutOfBoundsException") ∈ lw_tbl := lw_at lw_m7 230 rfl
theorem q1801 : (Jvm.Cond.selects "java/lang/ArrayIndexOutOfBoundsException" ({ cls := "java/lang/Throwable", name := "fillInStackTrace", desc := "(I)Ljava/lang/Throwable;" } : Jvm.MethodName) ({ cls := "java/lang/Throwable", name := "fillInStackTrace", desc := "(I)Ljava/lang/Throwable;" } : Jvm.MethodName)) ∈ lw_all := lw_g (lw_at lw_m7 233 rfl) rfl
theorem q2471 : (Jvm.Cond.instanceMethod ({ cls := "java/lang/ArrayIndexOutOfBoundsException", name := "<init>", desc := "(I)V" } : Jvm.MethodName)) ∈ lw_all := lw_g (lw_at lw_m10 183 rfl) rfl
theorem q2472 : (Jvm.Cond.code ({ cls := "java/lang/ArrayIndexOutOfBoundsException", name := "<init>", desc := "(I)V" } : Jvm.MethodName) prog_21_method_3_code (2 : Nat) (Option.none : Option Jvm.ClassFile.FieldType)) ∈ lw_all := lw_g (lw_at lw_m10 184 rfl) rfl
theorem q2473 : (Jvm.Cond.classLink "java/lang/ArrayIndexOutOfBoundsException" (10 : Nat) "java/lang/StringBuilder") ∈ lw_all := lw_g (lw_at lw_m10 185 rfl) rfl
theorem q2474 : (Jvm.Cond.methodLink "java/lang/ArrayIndexOutOfBoundsException" (12 : Nat) ({ cls := "java/lang/StringBuilder", name := "<init>", desc := "()V" } : Jvm.MethodName)) ∈ lw_all := lw_g (lw_at lw_m10 186 rfl) rfl
theorem q2475 : (Jvm.Cond.stringRef "java/lang/ArrayIndexOutOfBoundsException" (13 : Nat) "Array index out of range: ") ∈ lw_tbl := lw_at lw_m10 187 rfl
theorem q2476 : (Jvm.Cond.methodLink "java/lang/ArrayIndexOutOfBoundsException" (15 : Nat) ({ cls := "java/lang/StringBuilder", name := "append", desc := "(Ljava/lang/String;)Ljava/lang/StringBuilder;" } : Jvm.MethodName)) ∈ lw_all := lw_g (lw_at lw_m10 188 rfl) rfl
theorem q2477 : (Jvm.Cond.methodLink "java/lang/ArrayIndexOutOfBoundsException" (19 : Nat) ({ cls := "java/lang/StringBuilder", name := "append", desc := "(I)Ljava/lang/StringBuilder;" } : Jvm.MethodName)) ∈ lw_all := lw_g (lw_at lw_m10 189 rfl) rfl
theorem q2478 : (Jvm.Cond.methodLink "java/lang/ArrayIndexOutOfBoundsException" (22 : Nat) ({ cls := "java/lang/StringBuilder", name := "toString", desc := "()Ljava/lang/String;" } : Jvm.MethodName)) ∈ lw_all := lw_g (lw_at lw_m10 190 rfl) rfl
theorem q3252 : (Jvm.Cond.castable "java/lang/ArrayIndexOutOfBoundsException" "java/lang/IndexOutOfBoundsException") ∈ lw_tbl := lw_at lw_m14 4 rfl
theorem q3279 : (Jvm.Cond.castable "java/lang/ArrayIndexOutOfBoundsException" "java/lang/Object") ∈ lw_tbl := lw_at lw_m14 31 rfl
theorem in_J25 : ∀ w ∈ wsJ250, w ∈ lw_all := lw_in wsJ250 [1791, 1792, 1793, 1794, 1795, 1796] (by decide +kernel) (by decide +kernel)
/-! java/lang/IllegalStateException -/
set_option maxRecDepth 100000
def RJ26 : String := "java/lang/IllegalStateException"
def TJ26 : u_T := fun k => match k with
  | 0 => ("java/lang/Throwable", "cause", "Ljava/lang/Throwable;", false)
  | 1 => ("java/lang/Throwable", "stackTrace", "[Ljava/lang/StackTraceElement;", false)
  | 2 => ("java/lang/Throwable", "suppressedExceptions", "Ljava/util/List;", false)
  | 3 => ("java/lang/Throwable", "detailMessage", "Ljava/lang/String;", false)
  | 4 => ("java/lang/Throwable", "backtrace", "Ljava/lang/Object;", false)
  | _ => ("java/lang/Throwable", "depth", "I", false)
def tyJ26 : Nat → FieldType := fun k => match k with
  | 0 => .object "java/lang/Throwable"
  | 1 => .array (.object "java/lang/StackTraceElement")
  | 2 => .object "java/util/List"
  | 3 => .object "java/lang/String"
  | 4 => .object "java/lang/Object"
  | _ => .int
abbrev wsJ260 : List Cond := u_ws RJ26 TJ26 6
theorem nmJ26 : ∀ a, a < 6 → ∀ b, b < 6 → a ≠ b → (TJ26 a).2.1 ≠ (TJ26 b).2.1 := by decide +kernel
theorem tyJ26_ok : ∀ k, k < 6 → parseFieldDescriptor (TJ26 k).2.2.1 = some (tyJ26 k) := by decide +kernel
abbrev cJ26_init : ByteArray := prog_27_method_1_code
def yJ26_init : MethodName := ⟨RJ26, "<init>", "()V"⟩
theorem dJ26_init_0 : decode cJ26_init 0 = .ok (.aload_n 0, 1) := by decide +kernel
theorem dJ26_init_1 : decode cJ26_init 1 = .ok (.invokespecial 1, 3) := by decide +kernel
theorem dJ26_init_4 : decode cJ26_init 4 = .ok (.return_, 1) := by decide +kernel
theorem q173 : (Jvm.Cond.initialized "java/lang/IllegalStateException") ∈ lw_all := lw_g (lw_at lw_m1 45 rfl) rfl
theorem q241 : (Jvm.Cond.selects "java/lang/IllegalStateException" ({ cls := "java/lang/Throwable", name := "fillInStackTrace", desc := "()Ljava/lang/Throwable;" } : Jvm.MethodName) ({ cls := "java/lang/Throwable", name := "fillInStackTrace", desc := "()Ljava/lang/Throwable;" } : Jvm.MethodName)) ∈ lw_all := lw_g (lw_at lw_m1 113 rfl) rfl
theorem q1010 : (Jvm.Cond.selects "java/lang/IllegalStateException" ({ cls := "java/lang/Object", name := "getClass", desc := "()Ljava/lang/Class;" } : Jvm.MethodName) ({ cls := "java/lang/Object", name := "getClass", desc := "()Ljava/lang/Class;" } : Jvm.MethodName)) ∈ lw_all := lw_g (lw_at lw_m4 162 rfl) rfl
theorem q1840 : (Jvm.Cond.instantiable "java/lang/IllegalStateException" (6 : Nat)) ∈ lw_all := lw_g (lw_at lw_m8 32 rfl) rfl
theorem q1841 : (Jvm.Cond.castable "java/lang/IllegalStateException" "java/lang/IllegalStateException") ∈ lw_tbl := lw_at lw_m8 33 rfl
theorem q1842 : (Jvm.Cond.selects "java/lang/IllegalStateException" ({ cls := "java/lang/Throwable", name := "fillInStackTrace", desc := "(I)Ljava/lang/Throwable;" } : Jvm.MethodName) ({ cls := "java/lang/Throwable", name := "fillInStackTrace", desc := "(I)Ljava/lang/Throwable;" } : Jvm.MethodName)) ∈ lw_all := lw_g (lw_at lw_m8 34 rfl) rfl
theorem q1843 : (Jvm.Cond.lays "java/lang/IllegalStateException" "java/lang/Throwable" "cause" "Ljava/lang/Throwable;") ∈ lw_all := lw_g (lw_at lw_m8 35 rfl) rfl
theorem q1844 : (Jvm.Cond.lays "java/lang/IllegalStateException" "java/lang/Throwable" "stackTrace" "[Ljava/lang/StackTraceElement;") ∈ lw_all := lw_g (lw_at lw_m8 36 rfl) rfl
theorem q1845 : (Jvm.Cond.lays "java/lang/IllegalStateException" "java/lang/Throwable" "suppressedExceptions" "Ljava/util/List;") ∈ lw_all := lw_g (lw_at lw_m8 37 rfl) rfl
theorem q1846 : (Jvm.Cond.lays "java/lang/IllegalStateException" "java/lang/Throwable" "detailMessage" "Ljava/lang/String;") ∈ lw_all := lw_g (lw_at lw_m8 38 rfl) rfl
theorem q1847 : (Jvm.Cond.lays "java/lang/IllegalStateException" "java/lang/Throwable" "backtrace" "Ljava/lang/Object;") ∈ lw_all := lw_g (lw_at lw_m8 39 rfl) rfl
theorem q1849 : (Jvm.Cond.instanceMethod ({ cls := "java/lang/IllegalStateException", name := "<init>", desc := "()V" } : Jvm.MethodName)) ∈ lw_all := lw_g (lw_at lw_m8 41 rfl) rfl
theorem q1850 : (Jvm.Cond.code ({ cls := "java/lang/IllegalStateException", name := "<init>", desc := "()V" } : Jvm.MethodName) prog_27_method_1_code (1 : Nat) (Option.none : Option Jvm.ClassFile.FieldType)) ∈ lw_all := lw_g (lw_at lw_m8 42 rfl) rfl
theorem q1851 : (Jvm.Cond.methodLink "java/lang/IllegalStateException" (1 : Nat) ({ cls := "java/lang/RuntimeException", name := "<init>", desc := "()V" } : Jvm.MethodName)) ∈ lw_all := lw_g (lw_at lw_m8 43 rfl) rfl
theorem q1852 : (Jvm.Cond.lays "java/lang/IllegalStateException" "java/lang/Throwable" "depth" "I") ∈ lw_all := lw_g (lw_at lw_m8 44 rfl) rfl
theorem q1853 : (Jvm.Cond.superclass "java/lang/IllegalStateException" "java/lang/RuntimeException") ∈ lw_all := lw_g (lw_at lw_m8 45 rfl) rfl
theorem q3280 : (Jvm.Cond.castable "java/lang/IllegalStateException" "java/lang/Object") ∈ lw_tbl := lw_at lw_m14 32 rfl
theorem in_J26 : ∀ w ∈ wsJ260, w ∈ lw_all := lw_in wsJ260 [1843, 1844, 1845, 1846, 1847, 1852] (by decide +kernel) (by decide +kernel)
/-! java/lang/StringIndexOutOfBoundsException -/
set_option maxRecDepth 100000
def RJ27 : String := "java/lang/StringIndexOutOfBoundsException"
def TJ27 : u_T := fun k => match k with
  | 0 => ("java/lang/Throwable", "backtrace", "Ljava/lang/Object;", false)
  | 1 => ("java/lang/Throwable", "detailMessage", "Ljava/lang/String;", false)
  | 2 => ("java/lang/Throwable", "cause", "Ljava/lang/Throwable;", false)
  | 3 => ("java/lang/Throwable", "stackTrace", "[Ljava/lang/StackTraceElement;", false)
  | 4 => ("java/lang/Throwable", "depth", "I", false)
  | _ => ("java/lang/Throwable", "suppressedExceptions", "Ljava/util/List;", false)
def tyJ27 : Nat → FieldType := fun k => match k with
  | 0 => .object "java/lang/Object"
  | 1 => .object "java/lang/String"
  | 2 => .object "java/lang/Throwable"
  | 3 => .array (.object "java/lang/StackTraceElement")
  | 4 => .int
  | _ => .object "java/util/List"
abbrev wsJ270 : List Cond := u_ws RJ27 TJ27 6
theorem nmJ27 : ∀ a, a < 6 → ∀ b, b < 6 → a ≠ b → (TJ27 a).2.1 ≠ (TJ27 b).2.1 := by decide +kernel
theorem tyJ27_ok : ∀ k, k < 6 → parseFieldDescriptor (TJ27 k).2.2.1 = some (tyJ27 k) := by decide +kernel
abbrev cJ27_init : ByteArray := prog_39_method_3_code
def yJ27_init : MethodName := ⟨RJ27, "<init>", "(I)V"⟩
def dkwJ27_init_0 : List UInt8 := [42, 187, 0, 10, 89, 183, 0, 12, 18, 13, 182, 0, 15, 27, 182, 0, 19, 182, 0, 22, 183, 0, 7, 177]
abbrev dktJ27_init_0 : List UInt8 := dkwJ27_init_0 ++ []
theorem dksJ27_init_0 : cJ27_init.data.toList.drop 0 = dktJ27_init_0 := by decide +kernel
theorem dJ27_init_0 : decode cJ27_init 0 = .ok (.aload_n 0, 1) := dk_42 (dk_at dksJ27_init_0 0 rfl rfl)
theorem dJ27_init_1 : decode cJ27_init 1 = .ok (.new 10, 3) := dk_187 0 10 (dk_at dksJ27_init_0 1 rfl rfl)
theorem dJ27_init_4 : decode cJ27_init 4 = .ok (.dup, 1) := dk_89 (dk_at dksJ27_init_0 4 rfl rfl)
theorem dJ27_init_5 : decode cJ27_init 5 = .ok (.invokespecial 12, 3) := dk_183 0 12 (dk_at dksJ27_init_0 5 rfl rfl)
theorem dJ27_init_8 : decode cJ27_init 8 = .ok (.ldc 13, 2) := dk_18 13 (dk_at dksJ27_init_0 8 rfl rfl)
theorem dJ27_init_10 : decode cJ27_init 10 = .ok (.invokevirtual 15, 3) := dk_182 0 15 (dk_at dksJ27_init_0 10 rfl rfl)
theorem dJ27_init_13 : decode cJ27_init 13 = .ok (.iload_n 1, 1) := dk_27 (dk_at dksJ27_init_0 13 rfl rfl)
theorem dJ27_init_14 : decode cJ27_init 14 = .ok (.invokevirtual 19, 3) := dk_182 0 19 (dk_at dksJ27_init_0 14 rfl rfl)
theorem dJ27_init_17 : decode cJ27_init 17 = .ok (.invokevirtual 22, 3) := dk_182 0 22 (dk_at dksJ27_init_0 17 rfl rfl)
theorem dJ27_init_20 : decode cJ27_init 20 = .ok (.invokespecial 7, 3) := dk_183 0 7 (dk_at dksJ27_init_0 20 rfl rfl)
theorem dJ27_init_23 : decode cJ27_init 23 = .ok (.return_, 1) := dk_177 (dk_at dksJ27_init_0 23 rfl rfl)
theorem q175 : (Jvm.Cond.initialized "java/lang/StringIndexOutOfBoundsException") ∈ lw_all := lw_g (lw_at lw_m1 47 rfl) rfl
theorem q243 : (Jvm.Cond.selects "java/lang/StringIndexOutOfBoundsException" ({ cls := "java/lang/Throwable", name := "fillInStackTrace", desc := "()Ljava/lang/Throwable;" } : Jvm.MethodName) ({ cls := "java/lang/Throwable", name := "fillInStackTrace", desc := "()Ljava/lang/Throwable;" } : Jvm.MethodName)) ∈ lw_all := lw_g (lw_at lw_m1 115 rfl) rfl
theorem q1014 : (Jvm.Cond.selects "java/lang/StringIndexOutOfBoundsException" ({ cls := "java/lang/Object", name := "getClass", desc := "()Ljava/lang/Class;" } : Jvm.MethodName) ({ cls := "java/lang/Object", name := "getClass", desc := "()Ljava/lang/Class;" } : Jvm.MethodName)) ∈ lw_all := lw_g (lw_at lw_m4 166 rfl) rfl
theorem q2439 : (Jvm.Cond.instantiable "java/lang/StringIndexOutOfBoundsException" (6 : Nat)) ∈ lw_all := lw_g (lw_at lw_m10 151 rfl) rfl
theorem q2441 : (Jvm.Cond.instanceMethod ({ cls := "java/lang/StringIndexOutOfBoundsException", name := "<init>", desc := "(I)V" } : Jvm.MethodName)) ∈ lw_all := lw_g (lw_at lw_m10 153 rfl) rfl
theorem q2442 : (Jvm.Cond.code ({ cls := "java/lang/StringIndexOutOfBoundsException", name := "<init>", desc := "(I)V" } : Jvm.MethodName) prog_39_method_3_code (2 : Nat) (Option.none : Option Jvm.ClassFile.FieldType)) ∈ lw_all := lw_g (lw_at lw_m10 154 rfl) rfl
theorem q2443 : (Jvm.Cond.classLink "java/lang/StringIndexOutOfBoundsException" (10 : Nat) "java/lang/StringBuilder") ∈ lw_all := lw_g (lw_at lw_m10 155 rfl) rfl
theorem q2444 : (Jvm.Cond.methodLink "java/lang/StringIndexOutOfBoundsException" (12 : Nat) ({ cls := "java/lang/StringBuilder", name := "<init>", desc := "()V" } : Jvm.MethodName)) ∈ lw_all := lw_g (lw_at lw_m10 156 rfl) rfl
theorem q2445 : (Jvm.Cond.stringRef "java/lang/StringIndexOutOfBoundsException" (13 : Nat) "String index out of range: ") ∈ lw_tbl := lw_at lw_m10 157 rfl
theorem q2446 : (Jvm.Cond.methodLink "java/lang/StringIndexOutOfBoundsException" (15 : Nat) ({ cls := "java/lang/StringBuilder", name := "append", desc := "(Ljava/lang/String;)Ljava/lang/StringBuilder;" } : Jvm.MethodName)) ∈ lw_all := lw_g (lw_at lw_m10 158 rfl) rfl
theorem q2447 : (Jvm.Cond.methodLink "java/lang/StringIndexOutOfBoundsException" (19 : Nat) ({ cls := "java/lang/StringBuilder", name := "append", desc := "(I)Ljava/lang/StringBuilder;" } : Jvm.MethodName)) ∈ lw_all := lw_g (lw_at lw_m10 159 rfl) rfl
theorem q2448 : (Jvm.Cond.methodLink "java/lang/StringIndexOutOfBoundsException" (22 : Nat) ({ cls := "java/lang/StringBuilder", name := "toString", desc := "()Ljava/lang/String;" } : Jvm.MethodName)) ∈ lw_all := lw_g (lw_at lw_m10 160 rfl) rfl
theorem q2449 : (Jvm.Cond.methodLink "java/lang/StringIndexOutOfBoundsException" (7 : Nat) ({ cls := "java/lang/IndexOutOfBoundsException", name := "<init>", desc := "(Ljava/lang/String;)V" } : Jvm.MethodName)) ∈ lw_all := lw_g (lw_at lw_m10 161 rfl) rfl
theorem q2450 : (Jvm.Cond.lays "java/lang/StringIndexOutOfBoundsException" "java/lang/Throwable" "backtrace" "Ljava/lang/Object;") ∈ lw_all := lw_g (lw_at lw_m10 162 rfl) rfl
theorem q2451 : (Jvm.Cond.lays "java/lang/StringIndexOutOfBoundsException" "java/lang/Throwable" "detailMessage" "Ljava/lang/String;") ∈ lw_all := lw_g (lw_at lw_m10 163 rfl) rfl
theorem q2452 : (Jvm.Cond.lays "java/lang/StringIndexOutOfBoundsException" "java/lang/Throwable" "cause" "Ljava/lang/Throwable;") ∈ lw_all := lw_g (lw_at lw_m10 164 rfl) rfl
theorem q2453 : (Jvm.Cond.lays "java/lang/StringIndexOutOfBoundsException" "java/lang/Throwable" "stackTrace" "[Ljava/lang/StackTraceElement;") ∈ lw_all := lw_g (lw_at lw_m10 165 rfl) rfl
theorem q2454 : (Jvm.Cond.lays "java/lang/StringIndexOutOfBoundsException" "java/lang/Throwable" "depth" "I") ∈ lw_all := lw_g (lw_at lw_m10 166 rfl) rfl
theorem q2455 : (Jvm.Cond.lays "java/lang/StringIndexOutOfBoundsException" "java/lang/Throwable" "suppressedExceptions" "Ljava/util/List;") ∈ lw_all := lw_g (lw_at lw_m10 167 rfl) rfl
theorem q2456 : (Jvm.Cond.superclass "java/lang/StringIndexOutOfBoundsException" "java/lang/IndexOutOfBoundsException") ∈ lw_all := lw_g (lw_at lw_m10 168 rfl) rfl
theorem q3253 : (Jvm.Cond.castable "java/lang/StringIndexOutOfBoundsException" "java/lang/IndexOutOfBoundsException") ∈ lw_tbl := lw_at lw_m14 5 rfl
theorem q3281 : (Jvm.Cond.castable "java/lang/StringIndexOutOfBoundsException" "java/lang/Object") ∈ lw_tbl := lw_at lw_m14 33 rfl
theorem in_J27 : ∀ w ∈ wsJ270, w ∈ lw_all := lw_in wsJ270 [2450, 2451, 2452, 2453, 2454, 2455] (by decide +kernel) (by decide +kernel)
/-! java/lang/Object -/
set_option maxRecDepth 100000
def RJ28 : String := "java/lang/Object"
abbrev cJ28_init : ByteArray := object_method_1_code
def yJ28_init : MethodName := ⟨RJ28, "<init>", "()V"⟩
theorem dJ28_init_0 : decode cJ28_init 0 = .ok (.return_, 1) := by decide +kernel
theorem q182 : (Jvm.Cond.instanceMethod ({ cls := "java/lang/Object", name := "<init>", desc := "()V" } : Jvm.MethodName)) ∈ lw_all := lw_g (lw_at lw_m1 54 rfl) rfl
theorem q183 : (Jvm.Cond.code ({ cls := "java/lang/Object", name := "<init>", desc := "()V" } : Jvm.MethodName) object_method_1_code (1 : Nat) (Option.none : Option Jvm.ClassFile.FieldType)) ∈ lw_all := lw_g (lw_at lw_m1 55 rfl) rfl
theorem q319 : (Jvm.Cond.native ({ cls := "java/lang/Object", name := "clone", desc := "()Ljava/lang/Object;" } : Jvm.MethodName)) ∈ lw_all := lw_g (lw_at lw_m1 191 rfl) rfl
theorem q320 : (Jvm.Cond.instanceMethod ({ cls := "java/lang/Object", name := "clone", desc := "()Ljava/lang/Object;" } : Jvm.MethodName)) ∈ lw_all := lw_g (lw_at lw_m1 192 rfl) rfl
theorem q991 : (Jvm.Cond.instanceMethod ({ cls := "java/lang/Object", name := "getClass", desc := "()Ljava/lang/Class;" } : Jvm.MethodName)) ∈ lw_all := lw_g (lw_at lw_m4 143 rfl) rfl
theorem q992 : (Jvm.Cond.sameMethod "java/lang/Object" "java/lang/Object" "getClass" "()Ljava/lang/Class;") ∈ lw_all := lw_g (lw_at lw_m4 144 rfl) rfl
theorem q1020 : (Jvm.Cond.native ({ cls := "java/lang/Object", name := "getClass", desc := "()Ljava/lang/Class;" } : Jvm.MethodName)) ∈ lw_all := lw_g (lw_at lw_m4 172 rfl) rfl
theorem q3251 : (Jvm.Cond.initialized "java/lang/Object") ∈ lw_all := lw_g (lw_at lw_m14 3 rfl) rfl
theorem q3285 : (Jvm.Cond.declares ({ cls := "java/lang/Object", name := "getClass", desc := "()Ljava/lang/Class;" } : Jvm.MethodName)) ∈ lw_tbl := lw_at lw_m14 37 rfl
/-! java/lang/System$2 -/
set_option maxRecDepth 100000
def RJ29 : String := "java/lang/System$2"
abbrev cJ29_getUTF16Char : ByteArray := prog_43_method_45_code
def yJ29_getUTF16Char : MethodName := ⟨RJ29, "getUTF16Char", "([BI)C"⟩
def dkwJ29_getUTF16Char_0 : List UInt8 := [43, 28, 184, 0, 185, 172]
abbrev dktJ29_getUTF16Char_0 : List UInt8 := dkwJ29_getUTF16Char_0 ++ []
theorem dksJ29_getUTF16Char_0 : cJ29_getUTF16Char.data.toList.drop 0 = dktJ29_getUTF16Char_0 := by decide +kernel
theorem dJ29_getUTF16Char_0 : decode cJ29_getUTF16Char 0 = .ok (.aload_n 1, 1) := dk_43 (dk_at dksJ29_getUTF16Char_0 0 rfl rfl)
theorem dJ29_getUTF16Char_1 : decode cJ29_getUTF16Char 1 = .ok (.iload_n 2, 1) := dk_28 (dk_at dksJ29_getUTF16Char_0 1 rfl rfl)
theorem dJ29_getUTF16Char_2 : decode cJ29_getUTF16Char 2 = .ok (.invokestatic 185, 3) := dk_184 0 185 (dk_at dksJ29_getUTF16Char_0 2 rfl rfl)
theorem dJ29_getUTF16Char_5 : decode cJ29_getUTF16Char 5 = .ok (.ireturn, 1) := dk_172 (dk_at dksJ29_getUTF16Char_0 5 rfl rfl)
theorem q1015 : (Jvm.Cond.selects "java/lang/System$2" ({ cls := "java/lang/Object", name := "getClass", desc := "()Ljava/lang/Class;" } : Jvm.MethodName) ({ cls := "java/lang/Object", name := "getClass", desc := "()Ljava/lang/Class;" } : Jvm.MethodName)) ∈ lw_all := lw_g (lw_at lw_m4 167 rfl) rfl
theorem q1468 : (Jvm.Cond.castable "java/lang/System$2" "jdk/internal/access/JavaLangAccess") ∈ lw_tbl := lw_at lw_m6 140 rfl
theorem q1469 : (Jvm.Cond.selects "java/lang/System$2" ({ cls := "jdk/internal/access/JavaLangAccess", name := "getUTF16Char", desc := "([BI)C" } : Jvm.MethodName) ({ cls := "java/lang/System$2", name := "getUTF16Char", desc := "([BI)C" } : Jvm.MethodName)) ∈ lw_all := lw_g (lw_at lw_m6 141 rfl) rfl
theorem q1470 : (Jvm.Cond.unhidden "java/lang/System$2" "getUTF16Char" "([BI)C") ∈ lw_tbl := lw_at lw_m6 142 rfl
theorem q1471 : (Jvm.Cond.instanceMethod ({ cls := "java/lang/System$2", name := "getUTF16Char", desc := "([BI)C" } : Jvm.MethodName)) ∈ lw_all := lw_g (lw_at lw_m6 143 rfl) rfl
theorem q1472 : (Jvm.Cond.publicMethod ({ cls := "java/lang/System$2", name := "getUTF16Char", desc := "([BI)C" } : Jvm.MethodName)) ∈ lw_tbl := lw_at lw_m6 144 rfl
theorem q1473 : (Jvm.Cond.code ({ cls := "java/lang/System$2", name := "getUTF16Char", desc := "([BI)C" } : Jvm.MethodName) prog_43_method_45_code (3 : Nat) (Option.some Jvm.ClassFile.FieldType.char)) ∈ lw_all := lw_g (lw_at lw_m6 145 rfl) rfl
theorem q1474 : (Jvm.Cond.methodLink "java/lang/System$2" (185 : Nat) ({ cls := "java/lang/StringUTF16", name := "getChar", desc := "([BI)C" } : Jvm.MethodName)) ∈ lw_all := lw_g (lw_at lw_m6 146 rfl) rfl
theorem q3267 : (Jvm.Cond.castable "java/lang/System$2" "java/lang/Object") ∈ lw_tbl := lw_at lw_m14 19 rfl
theorem q318 : (Jvm.Cond.sameMethod "[B" "java/lang/Object" "clone" "()Ljava/lang/Object;") ∈ lw_all := lw_g (lw_at lw_m1 190 rfl) rfl
set_option maxRecDepth 100000
theorem q321 : (Jvm.Cond.selects "[B" ({ cls := "[B", name := "clone", desc := "()Ljava/lang/Object;" } : Jvm.MethodName) ({ cls := "java/lang/Object", name := "clone", desc := "()Ljava/lang/Object;" } : Jvm.MethodName)) ∈ lw_all := lw_g (lw_at lw_m1 193 rfl) rfl
theorem q322 : (Jvm.Cond.castable "[B" "java/lang/Cloneable") ∈ lw_tbl := lw_at lw_m1 194 rfl
theorem q3287 : (Jvm.Cond.castable "[B" "java/lang/Object") ∈ lw_tbl := lw_at lw_m14 39 rfl
theorem q3288 : (Jvm.Cond.castable "[I" "java/lang/Object") ∈ lw_tbl := lw_at lw_m14 40 rfl
set_option maxRecDepth 100000
theorem q3291 : (Jvm.Cond.castable "[J" "java/lang/Object") ∈ lw_tbl := lw_at lw_m14 43 rfl
set_option maxRecDepth 100000
theorem q3292 : (Jvm.Cond.castable "[LFranchiseLedger$Books;" "java/lang/Object") ∈ lw_tbl := lw_at lw_m14 44 rfl
set_option maxRecDepth 100000
theorem q3283 : (Jvm.Cond.sameMethod "[Ljava/lang/Object;" "java/lang/Object" "getClass" "()Ljava/lang/Class;") ∈ lw_all := lw_g (lw_at lw_m14 35 rfl) rfl
set_option maxRecDepth 100000
theorem q3284 : (Jvm.Cond.selects "[Ljava/lang/Object;" ({ cls := "java/lang/Object", name := "getClass", desc := "()Ljava/lang/Class;" } : Jvm.MethodName) ({ cls := "java/lang/Object", name := "getClass", desc := "()Ljava/lang/Class;" } : Jvm.MethodName)) ∈ lw_all := lw_g (lw_at lw_m14 36 rfl) rfl
theorem q3286 : (Jvm.Cond.castable "[Ljava/lang/Object;" "java/lang/Object") ∈ lw_tbl := lw_at lw_m14 38 rfl
theorem q3289 : (Jvm.Cond.castable "[Z" "java/lang/Object") ∈ lw_tbl := lw_at lw_m14 41 rfl
set_option maxRecDepth 100000
theorem q3290 : (Jvm.Cond.castable "[[J" "java/lang/Object") ∈ lw_tbl := lw_at lw_m14 42 rfl
set_option maxRecDepth 100000
theorem q1280 : (Jvm.Cond.interfaceMethod "java/lang/CharSequence" "java/lang/CharSequence" "length" "()I") ∈ lw_tbl := lw_at lw_m5 192 rfl
set_option maxRecDepth 100000
theorem q1281 : (Jvm.Cond.declares ({ cls := "java/lang/CharSequence", name := "length", desc := "()I" } : Jvm.MethodName)) ∈ lw_tbl := lw_at lw_m5 193 rfl
theorem q1296 : (Jvm.Cond.interfaceMethod "java/lang/CharSequence" "java/lang/CharSequence" "charAt" "(I)C") ∈ lw_tbl := lw_at lw_m5 208 rfl
theorem q1297 : (Jvm.Cond.declares ({ cls := "java/lang/CharSequence", name := "charAt", desc := "(I)C" } : Jvm.MethodName)) ∈ lw_tbl := lw_at lw_m5 209 rfl
theorem q148 : (Jvm.Cond.initialized "java/lang/Number") ∈ lw_all := lw_g (lw_at lw_m1 20 rfl) rfl
set_option maxRecDepth 100000
theorem q145 : (Jvm.Cond.initialized "java/lang/System") ∈ lw_all := lw_g (lw_at lw_m1 17 rfl) rfl
set_option maxRecDepth 100000
theorem q328 : (Jvm.Cond.static ({ cls := "java/lang/System", name := "arraycopy", desc := "(Ljava/lang/Object;ILjava/lang/Object;II)V" } : Jvm.MethodName)) ∈ lw_all := lw_g (lw_at lw_m1 200 rfl) rfl
theorem q329 : (Jvm.Cond.native ({ cls := "java/lang/System", name := "arraycopy", desc := "(Ljava/lang/Object;ILjava/lang/Object;II)V" } : Jvm.MethodName)) ∈ lw_all := lw_g (lw_at lw_m1 201 rfl) rfl
theorem q730 : (Jvm.Cond.interfaceMethod "java/util/List" "java/util/List" "size" "()I") ∈ lw_tbl := lw_at lw_m3 122 rfl
set_option maxRecDepth 100000
theorem q731 : (Jvm.Cond.declares ({ cls := "java/util/List", name := "size", desc := "()I" } : Jvm.MethodName)) ∈ lw_tbl := lw_at lw_m3 123 rfl
theorem q755 : (Jvm.Cond.interfaceMethod "java/util/List" "java/util/List" "get" "(I)Ljava/lang/Object;") ∈ lw_tbl := lw_at lw_m3 147 rfl
theorem q756 : (Jvm.Cond.declares ({ cls := "java/util/List", name := "get", desc := "(I)Ljava/lang/Object;" } : Jvm.MethodName)) ∈ lw_tbl := lw_at lw_m3 148 rfl
theorem q965 : (Jvm.Cond.interfaceMethod "java/util/List" "java/util/List" "add" "(Ljava/lang/Object;)Z") ∈ lw_tbl := lw_at lw_m4 117 rfl
theorem q966 : (Jvm.Cond.declares ({ cls := "java/util/List", name := "add", desc := "(Ljava/lang/Object;)Z" } : Jvm.MethodName)) ∈ lw_tbl := lw_at lw_m4 118 rfl
theorem q1466 : (Jvm.Cond.interfaceMethod "jdk/internal/access/JavaLangAccess" "jdk/internal/access/JavaLangAccess" "getUTF16Char" "([BI)C") ∈ lw_tbl := lw_at lw_m6 138 rfl
set_option maxRecDepth 100000
theorem q1467 : (Jvm.Cond.declares ({ cls := "jdk/internal/access/JavaLangAccess", name := "getUTF16Char", desc := "([BI)C" } : Jvm.MethodName)) ∈ lw_tbl := lw_at lw_m6 139 rfl
theorem q165 : (Jvm.Cond.initialized "jdk/internal/misc/UnsafeConstants") ∈ lw_all := lw_g (lw_at lw_m1 37 rfl) rfl
set_option maxRecDepth 100000
theorem q1203 : (Jvm.Cond.laysStatic "jdk/internal/misc/UnsafeConstants" "BIG_ENDIAN" "Z") ∈ lw_tbl := lw_at lw_m5 115 rfl
theorem q203 : (Jvm.Cond.arrayOver (Jvm.ClassFile.FieldType.object "java/lang/Object")) ∈ lw_tbl := lw_at lw_m1 75 rfl
set_option maxRecDepth 100000
theorem q282 : (Jvm.Cond.arrayClass Jvm.ClassFile.FieldType.byte) ∈ lw_all := lw_g (lw_at lw_m1 154 rfl) rfl
theorem q626 : (Jvm.Cond.arrayClass Jvm.ClassFile.FieldType.int) ∈ lw_all := lw_g (lw_at lw_m3 18 rfl) rfl
theorem q627 : (Jvm.Cond.arrayClass Jvm.ClassFile.FieldType.boolean) ∈ lw_all := lw_g (lw_at lw_m3 19 rfl) rfl
theorem q629 : (Jvm.Cond.arrayOver (Jvm.ClassFile.FieldType.array Jvm.ClassFile.FieldType.long)) ∈ lw_tbl := lw_at lw_m3 21 rfl
theorem q661 : (Jvm.Cond.arrayClass Jvm.ClassFile.FieldType.long) ∈ lw_all := lw_g (lw_at lw_m3 53 rfl) rfl
theorem q662 : (Jvm.Cond.arrayOver (Jvm.ClassFile.FieldType.object "FranchiseLedger$Books")) ∈ lw_tbl := lw_at lw_m3 54 rfl
theorem q3293 : (Jvm.Cond.arrayClass Jvm.ClassFile.FieldType.char) ∈ lw_all := lw_g (lw_at lw_m14 45 rfl) rfl
theorem q3294 : (Jvm.Cond.arrayClass Jvm.ClassFile.FieldType.short) ∈ lw_all := lw_g (lw_at lw_m14 46 rfl) rfl
