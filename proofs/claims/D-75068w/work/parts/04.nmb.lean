/-! FranchiseLedger -/
set_option maxRecDepth 100000
def RX1 : String := "FranchiseLedger"
def TX1 : u_T := fun k => match k with
  | 0 => ("FranchiseLedger", "rules", "LFranchiseLedger$Rules;", false)
  | 1 => ("FranchiseLedger", "books", "LFranchiseLedger$Books;", false)
  | 2 => ("FranchiseLedger", "snapshots", "[LFranchiseLedger$Books;", true)
  | 3 => ("FranchiseLedger", "ownersBefore", "[B", true)
  | 4 => ("FranchiseLedger", "journal", "Ljava/util/LinkedList;", true)
  | 5 => ("FranchiseLedger", "formatted", "Ljava/lang/StringBuilder;", true)
  | 6 => ("FranchiseLedger", "buffer", "[B", true)
  | 7 => ("FranchiseLedger", "bufferLength", "I", false)
  | 8 => ("FranchiseLedger", "errorCode", "I", false)
  | _ => ("FranchiseLedger", "errorPosition", "I", false)
def tyX1 : Nat → FieldType := fun k => match k with
  | 0 => .object "FranchiseLedger$Rules"
  | 1 => .object "FranchiseLedger$Books"
  | 2 => .array (.object "FranchiseLedger$Books")
  | 3 => .array .byte
  | 4 => .object "java/util/LinkedList"
  | 5 => .object "java/lang/StringBuilder"
  | 6 => .array .byte
  | 7 => .int
  | 8 => .int
  | _ => .int
abbrev wsX10 : List Cond := u_ws RX1 TX1 10
theorem nmX1 : ∀ a, a < 10 → ∀ b, b < 10 → a ≠ b → (TX1 a).2.1 ≠ (TX1 b).2.1 := by decide +kernel
theorem tyX1_ok : ∀ k, k < 10 → parseFieldDescriptor (TX1 k).2.2.1 = some (tyX1 k) := by decide +kernel
abbrev cX1_init : ByteArray := prog_1_method_8_code
def yX1_init : MethodName := ⟨RX1, "<init>", "()V"⟩
def dkwX1_init_3 : List UInt8 := [17, 5, 220, 188, 8, 181, 0, 67, 42, 2, 181, 0, 70, 177]
abbrev dktX1_init_3 : List UInt8 := dkwX1_init_3 ++ []
def dkwX1_init_2 : List UInt8 := [89, 183, 0, 53, 181, 0, 54, 42, 187, 0, 58, 89, 17, 0, 160, 183, 0, 60, 181, 0, 63, 42]
abbrev dktX1_init_2 : List UInt8 := dkwX1_init_2 ++ dktX1_init_3
def dkwX1_init_1 : List UInt8 := [181, 0, 39, 42, 5, 189, 0, 34, 181, 0, 43, 42, 17, 3, 132, 188, 8, 181, 0, 47, 42, 187, 0, 51]
abbrev dktX1_init_1 : List UInt8 := dkwX1_init_1 ++ dktX1_init_2
def dkwX1_init_0 : List UInt8 := [42, 183, 0, 24, 42, 187, 0, 27, 89, 183, 0, 29, 181, 0, 30, 42, 187, 0, 34, 89, 42, 183, 0, 36]
abbrev dktX1_init_0 : List UInt8 := dkwX1_init_0 ++ dktX1_init_1
theorem dksX1_init_0 : cX1_init.data.toList.drop 0 = dktX1_init_0 := by decide +kernel
theorem dksX1_init_1 : cX1_init.data.toList.drop 24 = dktX1_init_1 := dk_seg dksX1_init_0 24 rfl rfl
theorem dksX1_init_2 : cX1_init.data.toList.drop 48 = dktX1_init_2 := dk_seg dksX1_init_1 24 rfl rfl
theorem dksX1_init_3 : cX1_init.data.toList.drop 70 = dktX1_init_3 := dk_seg dksX1_init_2 22 rfl rfl
theorem dX1_init_0 : decode cX1_init 0 = .ok (.aload_n 0, 1) := dk_42 (dk_at dksX1_init_0 0 rfl rfl)
theorem dX1_init_1 : decode cX1_init 1 = .ok (.invokespecial 24, 3) := dk_183 0 24 (dk_at dksX1_init_0 1 rfl rfl)
theorem dX1_init_4 : decode cX1_init 4 = .ok (.aload_n 0, 1) := dk_42 (dk_at dksX1_init_0 4 rfl rfl)
theorem dX1_init_5 : decode cX1_init 5 = .ok (.new 27, 3) := dk_187 0 27 (dk_at dksX1_init_0 5 rfl rfl)
theorem dX1_init_8 : decode cX1_init 8 = .ok (.dup, 1) := dk_89 (dk_at dksX1_init_0 8 rfl rfl)
theorem dX1_init_9 : decode cX1_init 9 = .ok (.invokespecial 29, 3) := dk_183 0 29 (dk_at dksX1_init_0 9 rfl rfl)
theorem dX1_init_12 : decode cX1_init 12 = .ok (.putfield 30, 3) := dk_181 0 30 (dk_at dksX1_init_0 12 rfl rfl)
theorem dX1_init_15 : decode cX1_init 15 = .ok (.aload_n 0, 1) := dk_42 (dk_at dksX1_init_0 15 rfl rfl)
theorem dX1_init_16 : decode cX1_init 16 = .ok (.new 34, 3) := dk_187 0 34 (dk_at dksX1_init_0 16 rfl rfl)
theorem dX1_init_19 : decode cX1_init 19 = .ok (.dup, 1) := dk_89 (dk_at dksX1_init_0 19 rfl rfl)
theorem dX1_init_20 : decode cX1_init 20 = .ok (.aload_n 0, 1) := dk_42 (dk_at dksX1_init_0 20 rfl rfl)
theorem dX1_init_21 : decode cX1_init 21 = .ok (.invokespecial 36, 3) := dk_183 0 36 (dk_at dksX1_init_0 21 rfl rfl)
theorem dX1_init_24 : decode cX1_init 24 = .ok (.putfield 39, 3) := dk_181 0 39 (dk_at dksX1_init_1 0 rfl rfl)
theorem dX1_init_27 : decode cX1_init 27 = .ok (.aload_n 0, 1) := dk_42 (dk_at dksX1_init_1 3 rfl rfl)
theorem dX1_init_28 : decode cX1_init 28 = .ok (.iconst 2, 1) := dk_5 (dk_at dksX1_init_1 4 rfl rfl)
theorem dX1_init_29 : decode cX1_init 29 = .ok (.anewarray 34, 3) := dk_189 0 34 (dk_at dksX1_init_1 5 rfl rfl)
theorem dX1_init_32 : decode cX1_init 32 = .ok (.putfield 43, 3) := dk_181 0 43 (dk_at dksX1_init_1 8 rfl rfl)
theorem dX1_init_35 : decode cX1_init 35 = .ok (.aload_n 0, 1) := dk_42 (dk_at dksX1_init_1 11 rfl rfl)
theorem dX1_init_36 : decode cX1_init 36 = .ok (.sipush 900, 3) := dk_17 3 132 (dk_at dksX1_init_1 12 rfl rfl)
theorem dX1_init_39 : decode cX1_init 39 = .ok (.newarray .byte, 2) := dk_188_8 (dk_at dksX1_init_1 15 rfl rfl)
theorem dX1_init_41 : decode cX1_init 41 = .ok (.putfield 47, 3) := dk_181 0 47 (dk_at dksX1_init_1 17 rfl rfl)
theorem dX1_init_44 : decode cX1_init 44 = .ok (.aload_n 0, 1) := dk_42 (dk_at dksX1_init_1 20 rfl rfl)
theorem dX1_init_45 : decode cX1_init 45 = .ok (.new 51, 3) := dk_187 0 51 (dk_at dksX1_init_1 21 rfl rfl)
theorem dX1_init_48 : decode cX1_init 48 = .ok (.dup, 1) := dk_89 (dk_at dksX1_init_2 0 rfl rfl)
theorem dX1_init_49 : decode cX1_init 49 = .ok (.invokespecial 53, 3) := dk_183 0 53 (dk_at dksX1_init_2 1 rfl rfl)
theorem dX1_init_52 : decode cX1_init 52 = .ok (.putfield 54, 3) := dk_181 0 54 (dk_at dksX1_init_2 4 rfl rfl)
theorem dX1_init_55 : decode cX1_init 55 = .ok (.aload_n 0, 1) := dk_42 (dk_at dksX1_init_2 7 rfl rfl)
theorem dX1_init_56 : decode cX1_init 56 = .ok (.new 58, 3) := dk_187 0 58 (dk_at dksX1_init_2 8 rfl rfl)
theorem dX1_init_59 : decode cX1_init 59 = .ok (.dup, 1) := dk_89 (dk_at dksX1_init_2 11 rfl rfl)
theorem dX1_init_60 : decode cX1_init 60 = .ok (.sipush 160, 3) := dk_17 0 160 (dk_at dksX1_init_2 12 rfl rfl)
theorem dX1_init_63 : decode cX1_init 63 = .ok (.invokespecial 60, 3) := dk_183 0 60 (dk_at dksX1_init_2 15 rfl rfl)
theorem dX1_init_66 : decode cX1_init 66 = .ok (.putfield 63, 3) := dk_181 0 63 (dk_at dksX1_init_2 18 rfl rfl)
theorem dX1_init_69 : decode cX1_init 69 = .ok (.aload_n 0, 1) := dk_42 (dk_at dksX1_init_2 21 rfl rfl)
theorem dX1_init_70 : decode cX1_init 70 = .ok (.sipush 1500, 3) := dk_17 5 220 (dk_at dksX1_init_3 0 rfl rfl)
theorem dX1_init_73 : decode cX1_init 73 = .ok (.newarray .byte, 2) := dk_188_8 (dk_at dksX1_init_3 3 rfl rfl)
theorem dX1_init_75 : decode cX1_init 75 = .ok (.putfield 67, 3) := dk_181 0 67 (dk_at dksX1_init_3 5 rfl rfl)
theorem dX1_init_78 : decode cX1_init 78 = .ok (.aload_n 0, 1) := dk_42 (dk_at dksX1_init_3 8 rfl rfl)
theorem dX1_init_79 : decode cX1_init 79 = .ok (.iconst (-1), 1) := dk_2 (dk_at dksX1_init_3 9 rfl rfl)
theorem dX1_init_80 : decode cX1_init 80 = .ok (.putfield 70, 3) := dk_181 0 70 (dk_at dksX1_init_3 10 rfl rfl)
theorem dX1_init_83 : decode cX1_init 83 = .ok (.return_, 1) := dk_177 (dk_at dksX1_init_3 13 rfl rfl)
abbrev cX1_count : ByteArray := prog_1_method_16_code
def yX1_count : MethodName := ⟨RX1, "count", "(I)I"⟩
def dkwX1_count_4 : List UInt8 := [180, 0, 54, 182, 0, 120, 167, 0, 4, 2, 172]
abbrev dktX1_count_4 : List UInt8 := dkwX1_count_4 ++ []
def dkwX1_count_3 : List UInt8 := [185, 0, 78, 1, 0, 167, 0, 29, 42, 180, 0, 39, 180, 0, 102, 185, 0, 78, 1, 0, 167, 0, 14, 42]
abbrev dktX1_count_3 : List UInt8 := dkwX1_count_3 ++ dktX1_count_4
def dkwX1_count_2 : List UInt8 := [42, 180, 0, 30, 180, 0, 117, 185, 0, 78, 1, 0, 167, 0, 44, 42, 180, 0, 39, 180, 0, 74]
abbrev dktX1_count_2 : List UInt8 := dkwX1_count_2 ++ dktX1_count_3
def dkwX1_count_1 : List UInt8 := [170, 0, 0, 0, 0, 0, 86, 0, 0, 0, 0, 0, 0, 0, 3, 0, 0, 0, 31, 0, 0, 0, 46, 0, 0, 0, 61, 0, 0, 0, 76]
abbrev dktX1_count_1 : List UInt8 := dkwX1_count_1 ++ dktX1_count_2
def dkwX1_count_0 : List UInt8 := [27]
abbrev dktX1_count_0 : List UInt8 := dkwX1_count_0 ++ dktX1_count_1
theorem dksX1_count_0 : cX1_count.data.toList.drop 0 = dktX1_count_0 := by decide +kernel
theorem dksX1_count_1 : cX1_count.data.toList.drop 1 = dktX1_count_1 := dk_seg dksX1_count_0 1 rfl rfl
theorem dksX1_count_2 : cX1_count.data.toList.drop 32 = dktX1_count_2 := dk_seg dksX1_count_1 31 rfl rfl
theorem dksX1_count_3 : cX1_count.data.toList.drop 54 = dktX1_count_3 := dk_seg dksX1_count_2 22 rfl rfl
theorem dksX1_count_4 : cX1_count.data.toList.drop 78 = dktX1_count_4 := dk_seg dksX1_count_3 24 rfl rfl
theorem dX1_count_0 : decode cX1_count 0 = .ok (.iload_n 1, 1) := dk_27 (dk_at dksX1_count_0 0 rfl rfl)
theorem dX1_count_1 : decode cX1_count 1 = .ok (.tableswitch 86 0 3 #[31, 46, 61, 76], 31) := by decide +kernel
theorem dX1_count_32 : decode cX1_count 32 = .ok (.aload_n 0, 1) := dk_42 (dk_at dksX1_count_2 0 rfl rfl)
theorem dX1_count_33 : decode cX1_count 33 = .ok (.getfield 30, 3) := dk_180 0 30 (dk_at dksX1_count_2 1 rfl rfl)
theorem dX1_count_36 : decode cX1_count 36 = .ok (.getfield 117, 3) := dk_180 0 117 (dk_at dksX1_count_2 4 rfl rfl)
theorem dX1_count_39 : decode cX1_count 39 = .ok (.invokeinterface 78 1, 5) := by decide +kernel
theorem dX1_count_44 : decode cX1_count 44 = .ok (.goto 44, 3) := dk_167 0 44 (dk_at dksX1_count_2 12 rfl rfl)
theorem dX1_count_47 : decode cX1_count 47 = .ok (.aload_n 0, 1) := dk_42 (dk_at dksX1_count_2 15 rfl rfl)
theorem dX1_count_48 : decode cX1_count 48 = .ok (.getfield 39, 3) := dk_180 0 39 (dk_at dksX1_count_2 16 rfl rfl)
theorem dX1_count_51 : decode cX1_count 51 = .ok (.getfield 74, 3) := dk_180 0 74 (dk_at dksX1_count_2 19 rfl rfl)
theorem dX1_count_54 : decode cX1_count 54 = .ok (.invokeinterface 78 1, 5) := by decide +kernel
theorem dX1_count_59 : decode cX1_count 59 = .ok (.goto 29, 3) := dk_167 0 29 (dk_at dksX1_count_3 5 rfl rfl)
theorem dX1_count_62 : decode cX1_count 62 = .ok (.aload_n 0, 1) := dk_42 (dk_at dksX1_count_3 8 rfl rfl)
theorem dX1_count_63 : decode cX1_count 63 = .ok (.getfield 39, 3) := dk_180 0 39 (dk_at dksX1_count_3 9 rfl rfl)
theorem dX1_count_66 : decode cX1_count 66 = .ok (.getfield 102, 3) := dk_180 0 102 (dk_at dksX1_count_3 12 rfl rfl)
theorem dX1_count_69 : decode cX1_count 69 = .ok (.invokeinterface 78 1, 5) := by decide +kernel
theorem dX1_count_74 : decode cX1_count 74 = .ok (.goto 14, 3) := dk_167 0 14 (dk_at dksX1_count_3 20 rfl rfl)
theorem dX1_count_77 : decode cX1_count 77 = .ok (.aload_n 0, 1) := dk_42 (dk_at dksX1_count_3 23 rfl rfl)
theorem dX1_count_78 : decode cX1_count 78 = .ok (.getfield 54, 3) := dk_180 0 54 (dk_at dksX1_count_4 0 rfl rfl)
theorem dX1_count_81 : decode cX1_count 81 = .ok (.invokevirtual 120, 3) := dk_182 0 120 (dk_at dksX1_count_4 3 rfl rfl)
theorem dX1_count_84 : decode cX1_count 84 = .ok (.goto 4, 3) := dk_167 0 4 (dk_at dksX1_count_4 6 rfl rfl)
theorem dX1_count_87 : decode cX1_count 87 = .ok (.iconst (-1), 1) := dk_2 (dk_at dksX1_count_4 9 rfl rfl)
theorem dX1_count_88 : decode cX1_count 88 = .ok (.ireturn, 1) := dk_172 (dk_at dksX1_count_4 10 rfl rfl)
abbrev cX1_month : ByteArray := prog_1_method_17_code
def yX1_month : MethodName := ⟨RX1, "month", "()I"⟩
def dkwX1_month_0 : List UInt8 := [42, 180, 0, 39, 180, 0, 111, 172]
abbrev dktX1_month_0 : List UInt8 := dkwX1_month_0 ++ []
theorem dksX1_month_0 : cX1_month.data.toList.drop 0 = dktX1_month_0 := by decide +kernel
theorem dX1_month_0 : decode cX1_month 0 = .ok (.aload_n 0, 1) := dk_42 (dk_at dksX1_month_0 0 rfl rfl)
theorem dX1_month_1 : decode cX1_month 1 = .ok (.getfield 39, 3) := dk_180 0 39 (dk_at dksX1_month_0 1 rfl rfl)
theorem dX1_month_4 : decode cX1_month 4 = .ok (.getfield 111, 3) := dk_180 0 111 (dk_at dksX1_month_0 4 rfl rfl)
theorem dX1_month_7 : decode cX1_month 7 = .ok (.ireturn, 1) := dk_172 (dk_at dksX1_month_0 7 rfl rfl)
abbrev cX1_ranked : ByteArray := prog_1_method_52_code
def yX1_ranked : MethodName := ⟨RX1, "ranked", "(I)I"⟩
def dkwX1_ranked_6 : List UInt8 := [132, 2, 1, 167, 255, 115, 2, 172]
abbrev dktX1_ranked_6 : List UInt8 := dkwX1_ranked_6 ++ []
def dkwX1_ranked_5 : List UInt8 := [162, 0, 7, 4, 167, 0, 4, 3, 96, 62, 132, 6, 1, 167, 255, 177, 29, 27, 160, 0, 5, 28, 172]
abbrev dktX1_ranked_5 : List UInt8 := dkwX1_ranked_5 ++ dktX1_ranked_6
def dkwX1_ranked_4 : List UInt8 := [55, 7, 29, 22, 7, 22, 4, 148, 157, 0, 17, 22, 7, 22, 4, 148, 154, 0, 13, 21, 6, 28]
abbrev dktX1_ranked_4 : List UInt8 := dkwX1_ranked_4 ++ dktX1_ranked_5
def dkwX1_ranked_3 : List UInt8 := [180, 0, 74, 21, 6, 185, 0, 96, 2, 0, 192, 0, 100, 42, 180, 0, 39, 180, 0, 111, 182, 1, 30]
abbrev dktX1_ranked_3 : List UInt8 := dkwX1_ranked_3 ++ dktX1_ranked_4
def dkwX1_ranked_2 : List UInt8 := [3, 54, 6, 21, 6, 42, 180, 0, 39, 180, 0, 74, 185, 0, 78, 1, 0, 162, 0, 68, 42, 180, 0, 39]
abbrev dktX1_ranked_2 : List UInt8 := dkwX1_ranked_2 ++ dktX1_ranked_3
def dkwX1_ranked_1 : List UInt8 := [180, 0, 74, 28, 185, 0, 96, 2, 0, 192, 0, 100, 42, 180, 0, 39, 180, 0, 111, 182, 1, 30, 55, 4]
abbrev dktX1_ranked_1 : List UInt8 := dkwX1_ranked_1 ++ dktX1_ranked_2
def dkwX1_ranked_0 : List UInt8 := [3, 61, 28, 42, 180, 0, 39, 180, 0, 74, 185, 0, 78, 1, 0, 162, 0, 131, 3, 62, 42, 180, 0, 39]
abbrev dktX1_ranked_0 : List UInt8 := dkwX1_ranked_0 ++ dktX1_ranked_1
theorem dksX1_ranked_0 : cX1_ranked.data.toList.drop 0 = dktX1_ranked_0 := by decide +kernel
theorem dksX1_ranked_1 : cX1_ranked.data.toList.drop 24 = dktX1_ranked_1 := dk_seg dksX1_ranked_0 24 rfl rfl
theorem dksX1_ranked_2 : cX1_ranked.data.toList.drop 48 = dktX1_ranked_2 := dk_seg dksX1_ranked_1 24 rfl rfl
theorem dksX1_ranked_3 : cX1_ranked.data.toList.drop 72 = dktX1_ranked_3 := dk_seg dksX1_ranked_2 24 rfl rfl
theorem dksX1_ranked_4 : cX1_ranked.data.toList.drop 95 = dktX1_ranked_4 := dk_seg dksX1_ranked_3 23 rfl rfl
theorem dksX1_ranked_5 : cX1_ranked.data.toList.drop 117 = dktX1_ranked_5 := dk_seg dksX1_ranked_4 22 rfl rfl
theorem dksX1_ranked_6 : cX1_ranked.data.toList.drop 140 = dktX1_ranked_6 := dk_seg dksX1_ranked_5 23 rfl rfl
theorem dX1_ranked_0 : decode cX1_ranked 0 = .ok (.iconst 0, 1) := dk_3 (dk_at dksX1_ranked_0 0 rfl rfl)
theorem dX1_ranked_1 : decode cX1_ranked 1 = .ok (.istore_n 2, 1) := dk_61 (dk_at dksX1_ranked_0 1 rfl rfl)
theorem dX1_ranked_2 : decode cX1_ranked 2 = .ok (.iload_n 2, 1) := dk_28 (dk_at dksX1_ranked_0 2 rfl rfl)
theorem dX1_ranked_3 : decode cX1_ranked 3 = .ok (.aload_n 0, 1) := dk_42 (dk_at dksX1_ranked_0 3 rfl rfl)
theorem dX1_ranked_4 : decode cX1_ranked 4 = .ok (.getfield 39, 3) := dk_180 0 39 (dk_at dksX1_ranked_0 4 rfl rfl)
theorem dX1_ranked_7 : decode cX1_ranked 7 = .ok (.getfield 74, 3) := dk_180 0 74 (dk_at dksX1_ranked_0 7 rfl rfl)
theorem dX1_ranked_10 : decode cX1_ranked 10 = .ok (.invokeinterface 78 1, 5) := by decide +kernel
theorem dX1_ranked_15 : decode cX1_ranked 15 = .ok (.if_icmp .ge 131, 3) := dk_162 0 131 (dk_at dksX1_ranked_0 15 rfl rfl)
theorem dX1_ranked_18 : decode cX1_ranked 18 = .ok (.iconst 0, 1) := dk_3 (dk_at dksX1_ranked_0 18 rfl rfl)
theorem dX1_ranked_19 : decode cX1_ranked 19 = .ok (.istore_n 3, 1) := dk_62 (dk_at dksX1_ranked_0 19 rfl rfl)
theorem dX1_ranked_20 : decode cX1_ranked 20 = .ok (.aload_n 0, 1) := dk_42 (dk_at dksX1_ranked_0 20 rfl rfl)
theorem dX1_ranked_21 : decode cX1_ranked 21 = .ok (.getfield 39, 3) := dk_180 0 39 (dk_at dksX1_ranked_0 21 rfl rfl)
theorem dX1_ranked_24 : decode cX1_ranked 24 = .ok (.getfield 74, 3) := dk_180 0 74 (dk_at dksX1_ranked_1 0 rfl rfl)
theorem dX1_ranked_27 : decode cX1_ranked 27 = .ok (.iload_n 2, 1) := dk_28 (dk_at dksX1_ranked_1 3 rfl rfl)
theorem dX1_ranked_28 : decode cX1_ranked 28 = .ok (.invokeinterface 96 2, 5) := by decide +kernel
theorem dX1_ranked_33 : decode cX1_ranked 33 = .ok (.checkcast 100, 3) := dk_192 0 100 (dk_at dksX1_ranked_1 9 rfl rfl)
theorem dX1_ranked_36 : decode cX1_ranked 36 = .ok (.aload_n 0, 1) := dk_42 (dk_at dksX1_ranked_1 12 rfl rfl)
theorem dX1_ranked_37 : decode cX1_ranked 37 = .ok (.getfield 39, 3) := dk_180 0 39 (dk_at dksX1_ranked_1 13 rfl rfl)
theorem dX1_ranked_40 : decode cX1_ranked 40 = .ok (.getfield 111, 3) := dk_180 0 111 (dk_at dksX1_ranked_1 16 rfl rfl)
theorem dX1_ranked_43 : decode cX1_ranked 43 = .ok (.invokevirtual 286, 3) := dk_182 1 30 (dk_at dksX1_ranked_1 19 rfl rfl)
theorem dX1_ranked_46 : decode cX1_ranked 46 = .ok (.lstore 4, 2) := dk_55 4 (dk_at dksX1_ranked_1 22 rfl rfl)
theorem dX1_ranked_48 : decode cX1_ranked 48 = .ok (.iconst 0, 1) := dk_3 (dk_at dksX1_ranked_2 0 rfl rfl)
theorem dX1_ranked_49 : decode cX1_ranked 49 = .ok (.istore 6, 2) := dk_54 6 (dk_at dksX1_ranked_2 1 rfl rfl)
theorem dX1_ranked_51 : decode cX1_ranked 51 = .ok (.iload 6, 2) := dk_21 6 (dk_at dksX1_ranked_2 3 rfl rfl)
theorem dX1_ranked_53 : decode cX1_ranked 53 = .ok (.aload_n 0, 1) := dk_42 (dk_at dksX1_ranked_2 5 rfl rfl)
theorem dX1_ranked_54 : decode cX1_ranked 54 = .ok (.getfield 39, 3) := dk_180 0 39 (dk_at dksX1_ranked_2 6 rfl rfl)
theorem dX1_ranked_57 : decode cX1_ranked 57 = .ok (.getfield 74, 3) := dk_180 0 74 (dk_at dksX1_ranked_2 9 rfl rfl)
theorem dX1_ranked_60 : decode cX1_ranked 60 = .ok (.invokeinterface 78 1, 5) := by decide +kernel
theorem dX1_ranked_65 : decode cX1_ranked 65 = .ok (.if_icmp .ge 68, 3) := dk_162 0 68 (dk_at dksX1_ranked_2 17 rfl rfl)
theorem dX1_ranked_68 : decode cX1_ranked 68 = .ok (.aload_n 0, 1) := dk_42 (dk_at dksX1_ranked_2 20 rfl rfl)
theorem dX1_ranked_69 : decode cX1_ranked 69 = .ok (.getfield 39, 3) := dk_180 0 39 (dk_at dksX1_ranked_2 21 rfl rfl)
theorem dX1_ranked_72 : decode cX1_ranked 72 = .ok (.getfield 74, 3) := dk_180 0 74 (dk_at dksX1_ranked_3 0 rfl rfl)
theorem dX1_ranked_75 : decode cX1_ranked 75 = .ok (.iload 6, 2) := dk_21 6 (dk_at dksX1_ranked_3 3 rfl rfl)
theorem dX1_ranked_77 : decode cX1_ranked 77 = .ok (.invokeinterface 96 2, 5) := by decide +kernel
theorem dX1_ranked_82 : decode cX1_ranked 82 = .ok (.checkcast 100, 3) := dk_192 0 100 (dk_at dksX1_ranked_3 10 rfl rfl)
theorem dX1_ranked_85 : decode cX1_ranked 85 = .ok (.aload_n 0, 1) := dk_42 (dk_at dksX1_ranked_3 13 rfl rfl)
theorem dX1_ranked_86 : decode cX1_ranked 86 = .ok (.getfield 39, 3) := dk_180 0 39 (dk_at dksX1_ranked_3 14 rfl rfl)
theorem dX1_ranked_89 : decode cX1_ranked 89 = .ok (.getfield 111, 3) := dk_180 0 111 (dk_at dksX1_ranked_3 17 rfl rfl)
theorem dX1_ranked_92 : decode cX1_ranked 92 = .ok (.invokevirtual 286, 3) := dk_182 1 30 (dk_at dksX1_ranked_3 20 rfl rfl)
theorem dX1_ranked_95 : decode cX1_ranked 95 = .ok (.lstore 7, 2) := dk_55 7 (dk_at dksX1_ranked_4 0 rfl rfl)
theorem dX1_ranked_97 : decode cX1_ranked 97 = .ok (.iload_n 3, 1) := dk_29 (dk_at dksX1_ranked_4 2 rfl rfl)
theorem dX1_ranked_98 : decode cX1_ranked 98 = .ok (.lload 7, 2) := dk_22 7 (dk_at dksX1_ranked_4 3 rfl rfl)
theorem dX1_ranked_100 : decode cX1_ranked 100 = .ok (.lload 4, 2) := dk_22 4 (dk_at dksX1_ranked_4 5 rfl rfl)
theorem dX1_ranked_102 : decode cX1_ranked 102 = .ok (.lcmp, 1) := dk_148 (dk_at dksX1_ranked_4 7 rfl rfl)
theorem dX1_ranked_103 : decode cX1_ranked 103 = .ok (.ifCond .gt 17, 3) := dk_157 0 17 (dk_at dksX1_ranked_4 8 rfl rfl)
theorem dX1_ranked_106 : decode cX1_ranked 106 = .ok (.lload 7, 2) := dk_22 7 (dk_at dksX1_ranked_4 11 rfl rfl)
theorem dX1_ranked_108 : decode cX1_ranked 108 = .ok (.lload 4, 2) := dk_22 4 (dk_at dksX1_ranked_4 13 rfl rfl)
theorem dX1_ranked_110 : decode cX1_ranked 110 = .ok (.lcmp, 1) := dk_148 (dk_at dksX1_ranked_4 15 rfl rfl)
theorem dX1_ranked_111 : decode cX1_ranked 111 = .ok (.ifCond .ne 13, 3) := dk_154 0 13 (dk_at dksX1_ranked_4 16 rfl rfl)
theorem dX1_ranked_114 : decode cX1_ranked 114 = .ok (.iload 6, 2) := dk_21 6 (dk_at dksX1_ranked_4 19 rfl rfl)
theorem dX1_ranked_116 : decode cX1_ranked 116 = .ok (.iload_n 2, 1) := dk_28 (dk_at dksX1_ranked_4 21 rfl rfl)
theorem dX1_ranked_117 : decode cX1_ranked 117 = .ok (.if_icmp .ge 7, 3) := dk_162 0 7 (dk_at dksX1_ranked_5 0 rfl rfl)
theorem dX1_ranked_120 : decode cX1_ranked 120 = .ok (.iconst 1, 1) := dk_4 (dk_at dksX1_ranked_5 3 rfl rfl)
theorem dX1_ranked_121 : decode cX1_ranked 121 = .ok (.goto 4, 3) := dk_167 0 4 (dk_at dksX1_ranked_5 4 rfl rfl)
theorem dX1_ranked_124 : decode cX1_ranked 124 = .ok (.iconst 0, 1) := dk_3 (dk_at dksX1_ranked_5 7 rfl rfl)
theorem dX1_ranked_125 : decode cX1_ranked 125 = .ok (.iadd, 1) := dk_96 (dk_at dksX1_ranked_5 8 rfl rfl)
theorem dX1_ranked_126 : decode cX1_ranked 126 = .ok (.istore_n 3, 1) := dk_62 (dk_at dksX1_ranked_5 9 rfl rfl)
theorem dX1_ranked_127 : decode cX1_ranked 127 = .ok (.iinc 6 1, 3) := dk_132 6 1 (dk_at dksX1_ranked_5 10 rfl rfl)
theorem dX1_ranked_130 : decode cX1_ranked 130 = .ok (.goto (-79), 3) := dk_167 255 177 (dk_at dksX1_ranked_5 13 rfl rfl)
theorem dX1_ranked_133 : decode cX1_ranked 133 = .ok (.iload_n 3, 1) := dk_29 (dk_at dksX1_ranked_5 16 rfl rfl)
theorem dX1_ranked_134 : decode cX1_ranked 134 = .ok (.iload_n 1, 1) := dk_27 (dk_at dksX1_ranked_5 17 rfl rfl)
theorem dX1_ranked_135 : decode cX1_ranked 135 = .ok (.if_icmp .ne 5, 3) := dk_160 0 5 (dk_at dksX1_ranked_5 18 rfl rfl)
theorem dX1_ranked_138 : decode cX1_ranked 138 = .ok (.iload_n 2, 1) := dk_28 (dk_at dksX1_ranked_5 21 rfl rfl)
theorem dX1_ranked_139 : decode cX1_ranked 139 = .ok (.ireturn, 1) := dk_172 (dk_at dksX1_ranked_5 22 rfl rfl)
theorem dX1_ranked_140 : decode cX1_ranked 140 = .ok (.iinc 2 1, 3) := dk_132 2 1 (dk_at dksX1_ranked_6 0 rfl rfl)
theorem dX1_ranked_143 : decode cX1_ranked 143 = .ok (.goto (-141), 3) := dk_167 255 115 (dk_at dksX1_ranked_6 3 rfl rfl)
theorem dX1_ranked_146 : decode cX1_ranked 146 = .ok (.iconst (-1), 1) := dk_2 (dk_at dksX1_ranked_6 6 rfl rfl)
theorem dX1_ranked_147 : decode cX1_ranked 147 = .ok (.ireturn, 1) := dk_172 (dk_at dksX1_ranked_6 7 rfl rfl)
abbrev cX1_totalOwed : ByteArray := prog_1_method_57_code
def yX1_totalOwed : MethodName := ⟨RX1, "totalOwed", "()J"⟩
def dkwX1_totalOwed_2 : List UInt8 := [132, 3, 1, 167, 255, 211, 31, 173]
abbrev dktX1_totalOwed_2 : List UInt8 := dkwX1_totalOwed_2 ++ []
def dkwX1_totalOwed_1 : List UInt8 := [180, 0, 39, 180, 0, 74, 29, 185, 0, 96, 2, 0, 192, 0, 100, 180, 0, 153, 184, 1, 51, 97, 64]
abbrev dktX1_totalOwed_1 : List UInt8 := dkwX1_totalOwed_1 ++ dktX1_totalOwed_2
def dkwX1_totalOwed_0 : List UInt8 := [9, 64, 3, 62, 29, 42, 180, 0, 39, 180, 0, 74, 185, 0, 78, 1, 0, 162, 0, 35, 31, 9, 42]
abbrev dktX1_totalOwed_0 : List UInt8 := dkwX1_totalOwed_0 ++ dktX1_totalOwed_1
theorem dksX1_totalOwed_0 : cX1_totalOwed.data.toList.drop 0 = dktX1_totalOwed_0 := by decide +kernel
theorem dksX1_totalOwed_1 : cX1_totalOwed.data.toList.drop 23 = dktX1_totalOwed_1 := dk_seg dksX1_totalOwed_0 23 rfl rfl
theorem dksX1_totalOwed_2 : cX1_totalOwed.data.toList.drop 46 = dktX1_totalOwed_2 := dk_seg dksX1_totalOwed_1 23 rfl rfl
theorem dX1_totalOwed_0 : decode cX1_totalOwed 0 = .ok (.lconst 0, 1) := dk_9 (dk_at dksX1_totalOwed_0 0 rfl rfl)
theorem dX1_totalOwed_1 : decode cX1_totalOwed 1 = .ok (.lstore_n 1, 1) := dk_64 (dk_at dksX1_totalOwed_0 1 rfl rfl)
theorem dX1_totalOwed_2 : decode cX1_totalOwed 2 = .ok (.iconst 0, 1) := dk_3 (dk_at dksX1_totalOwed_0 2 rfl rfl)
theorem dX1_totalOwed_3 : decode cX1_totalOwed 3 = .ok (.istore_n 3, 1) := dk_62 (dk_at dksX1_totalOwed_0 3 rfl rfl)
theorem dX1_totalOwed_4 : decode cX1_totalOwed 4 = .ok (.iload_n 3, 1) := dk_29 (dk_at dksX1_totalOwed_0 4 rfl rfl)
theorem dX1_totalOwed_5 : decode cX1_totalOwed 5 = .ok (.aload_n 0, 1) := dk_42 (dk_at dksX1_totalOwed_0 5 rfl rfl)
theorem dX1_totalOwed_6 : decode cX1_totalOwed 6 = .ok (.getfield 39, 3) := dk_180 0 39 (dk_at dksX1_totalOwed_0 6 rfl rfl)
theorem dX1_totalOwed_9 : decode cX1_totalOwed 9 = .ok (.getfield 74, 3) := dk_180 0 74 (dk_at dksX1_totalOwed_0 9 rfl rfl)
theorem dX1_totalOwed_12 : decode cX1_totalOwed 12 = .ok (.invokeinterface 78 1, 5) := by decide +kernel
theorem dX1_totalOwed_17 : decode cX1_totalOwed 17 = .ok (.if_icmp .ge 35, 3) := dk_162 0 35 (dk_at dksX1_totalOwed_0 17 rfl rfl)
theorem dX1_totalOwed_20 : decode cX1_totalOwed 20 = .ok (.lload_n 1, 1) := dk_31 (dk_at dksX1_totalOwed_0 20 rfl rfl)
theorem dX1_totalOwed_21 : decode cX1_totalOwed 21 = .ok (.lconst 0, 1) := dk_9 (dk_at dksX1_totalOwed_0 21 rfl rfl)
theorem dX1_totalOwed_22 : decode cX1_totalOwed 22 = .ok (.aload_n 0, 1) := dk_42 (dk_at dksX1_totalOwed_0 22 rfl rfl)
theorem dX1_totalOwed_23 : decode cX1_totalOwed 23 = .ok (.getfield 39, 3) := dk_180 0 39 (dk_at dksX1_totalOwed_1 0 rfl rfl)
theorem dX1_totalOwed_26 : decode cX1_totalOwed 26 = .ok (.getfield 74, 3) := dk_180 0 74 (dk_at dksX1_totalOwed_1 3 rfl rfl)
theorem dX1_totalOwed_29 : decode cX1_totalOwed 29 = .ok (.iload_n 3, 1) := dk_29 (dk_at dksX1_totalOwed_1 6 rfl rfl)
theorem dX1_totalOwed_30 : decode cX1_totalOwed 30 = .ok (.invokeinterface 96 2, 5) := by decide +kernel
theorem dX1_totalOwed_35 : decode cX1_totalOwed 35 = .ok (.checkcast 100, 3) := dk_192 0 100 (dk_at dksX1_totalOwed_1 12 rfl rfl)
theorem dX1_totalOwed_38 : decode cX1_totalOwed 38 = .ok (.getfield 153, 3) := dk_180 0 153 (dk_at dksX1_totalOwed_1 15 rfl rfl)
theorem dX1_totalOwed_41 : decode cX1_totalOwed 41 = .ok (.invokestatic 307, 3) := dk_184 1 51 (dk_at dksX1_totalOwed_1 18 rfl rfl)
theorem dX1_totalOwed_44 : decode cX1_totalOwed 44 = .ok (.ladd, 1) := dk_97 (dk_at dksX1_totalOwed_1 21 rfl rfl)
theorem dX1_totalOwed_45 : decode cX1_totalOwed 45 = .ok (.lstore_n 1, 1) := dk_64 (dk_at dksX1_totalOwed_1 22 rfl rfl)
theorem dX1_totalOwed_46 : decode cX1_totalOwed 46 = .ok (.iinc 3 1, 3) := dk_132 3 1 (dk_at dksX1_totalOwed_2 0 rfl rfl)
theorem dX1_totalOwed_49 : decode cX1_totalOwed 49 = .ok (.goto (-45), 3) := dk_167 255 211 (dk_at dksX1_totalOwed_2 3 rfl rfl)
theorem dX1_totalOwed_52 : decode cX1_totalOwed 52 = .ok (.lload_n 1, 1) := dk_31 (dk_at dksX1_totalOwed_2 6 rfl rfl)
theorem dX1_totalOwed_53 : decode cX1_totalOwed 53 = .ok (.lreturn, 1) := dk_173 (dk_at dksX1_totalOwed_2 7 rfl rfl)
abbrev cX1_fundBalance : ByteArray := prog_1_method_61_code
def yX1_fundBalance : MethodName := ⟨RX1, "fundBalance", "()J"⟩
def dkwX1_fundBalance_0 : List UInt8 := [42, 180, 0, 39, 182, 1, 71, 173]
abbrev dktX1_fundBalance_0 : List UInt8 := dkwX1_fundBalance_0 ++ []
theorem dksX1_fundBalance_0 : cX1_fundBalance.data.toList.drop 0 = dktX1_fundBalance_0 := by decide +kernel
theorem dX1_fundBalance_0 : decode cX1_fundBalance 0 = .ok (.aload_n 0, 1) := dk_42 (dk_at dksX1_fundBalance_0 0 rfl rfl)
theorem dX1_fundBalance_1 : decode cX1_fundBalance 1 = .ok (.getfield 39, 3) := dk_180 0 39 (dk_at dksX1_fundBalance_0 1 rfl rfl)
theorem dX1_fundBalance_4 : decode cX1_fundBalance 4 = .ok (.invokevirtual 327, 3) := dk_182 1 71 (dk_at dksX1_fundBalance_0 4 rfl rfl)
theorem dX1_fundBalance_7 : decode cX1_fundBalance 7 = .ok (.lreturn, 1) := dk_173 (dk_at dksX1_fundBalance_0 7 rfl rfl)
abbrev cX1_saveSnapshot : ByteArray := prog_1_method_75_code
def yX1_saveSnapshot : MethodName := ⟨RX1, "saveSnapshot", "(I)Z"⟩
def dkwX1_saveSnapshot_1 : List UInt8 := [83, 4, 172]
abbrev dktX1_saveSnapshot_1 : List UInt8 := dkwX1_saveSnapshot_1 ++ []
def dkwX1_saveSnapshot_0 : List UInt8 := [27, 133, 9, 10, 184, 0, 84, 154, 0, 5, 3, 172, 42, 180, 0, 43, 27, 42, 180, 0, 39, 182, 1, 182]
abbrev dktX1_saveSnapshot_0 : List UInt8 := dkwX1_saveSnapshot_0 ++ dktX1_saveSnapshot_1
theorem dksX1_saveSnapshot_0 : cX1_saveSnapshot.data.toList.drop 0 = dktX1_saveSnapshot_0 := by decide +kernel
theorem dksX1_saveSnapshot_1 : cX1_saveSnapshot.data.toList.drop 24 = dktX1_saveSnapshot_1 := dk_seg dksX1_saveSnapshot_0 24 rfl rfl
theorem dX1_saveSnapshot_0 : decode cX1_saveSnapshot 0 = .ok (.iload_n 1, 1) := dk_27 (dk_at dksX1_saveSnapshot_0 0 rfl rfl)
theorem dX1_saveSnapshot_1 : decode cX1_saveSnapshot 1 = .ok (.i2l, 1) := dk_133 (dk_at dksX1_saveSnapshot_0 1 rfl rfl)
theorem dX1_saveSnapshot_2 : decode cX1_saveSnapshot 2 = .ok (.lconst 0, 1) := dk_9 (dk_at dksX1_saveSnapshot_0 2 rfl rfl)
theorem dX1_saveSnapshot_3 : decode cX1_saveSnapshot 3 = .ok (.lconst 1, 1) := dk_10 (dk_at dksX1_saveSnapshot_0 3 rfl rfl)
theorem dX1_saveSnapshot_4 : decode cX1_saveSnapshot 4 = .ok (.invokestatic 84, 3) := dk_184 0 84 (dk_at dksX1_saveSnapshot_0 4 rfl rfl)
theorem dX1_saveSnapshot_7 : decode cX1_saveSnapshot 7 = .ok (.ifCond .ne 5, 3) := dk_154 0 5 (dk_at dksX1_saveSnapshot_0 7 rfl rfl)
theorem dX1_saveSnapshot_10 : decode cX1_saveSnapshot 10 = .ok (.iconst 0, 1) := dk_3 (dk_at dksX1_saveSnapshot_0 10 rfl rfl)
theorem dX1_saveSnapshot_11 : decode cX1_saveSnapshot 11 = .ok (.ireturn, 1) := dk_172 (dk_at dksX1_saveSnapshot_0 11 rfl rfl)
theorem dX1_saveSnapshot_12 : decode cX1_saveSnapshot 12 = .ok (.aload_n 0, 1) := dk_42 (dk_at dksX1_saveSnapshot_0 12 rfl rfl)
theorem dX1_saveSnapshot_13 : decode cX1_saveSnapshot 13 = .ok (.getfield 43, 3) := dk_180 0 43 (dk_at dksX1_saveSnapshot_0 13 rfl rfl)
theorem dX1_saveSnapshot_16 : decode cX1_saveSnapshot 16 = .ok (.iload_n 1, 1) := dk_27 (dk_at dksX1_saveSnapshot_0 16 rfl rfl)
theorem dX1_saveSnapshot_17 : decode cX1_saveSnapshot 17 = .ok (.aload_n 0, 1) := dk_42 (dk_at dksX1_saveSnapshot_0 17 rfl rfl)
theorem dX1_saveSnapshot_18 : decode cX1_saveSnapshot 18 = .ok (.getfield 39, 3) := dk_180 0 39 (dk_at dksX1_saveSnapshot_0 18 rfl rfl)
theorem dX1_saveSnapshot_21 : decode cX1_saveSnapshot 21 = .ok (.invokevirtual 438, 3) := dk_182 1 182 (dk_at dksX1_saveSnapshot_0 21 rfl rfl)
theorem dX1_saveSnapshot_24 : decode cX1_saveSnapshot 24 = .ok (.aastore, 1) := dk_83 (dk_at dksX1_saveSnapshot_1 0 rfl rfl)
theorem dX1_saveSnapshot_25 : decode cX1_saveSnapshot 25 = .ok (.iconst 1, 1) := dk_4 (dk_at dksX1_saveSnapshot_1 1 rfl rfl)
theorem dX1_saveSnapshot_26 : decode cX1_saveSnapshot 26 = .ok (.ireturn, 1) := dk_172 (dk_at dksX1_saveSnapshot_1 2 rfl rfl)
abbrev cX1_inRange : ByteArray := prog_1_method_1_code
def yX1_inRange : MethodName := ⟨RX1, "inRange", "(JJJ)Z"⟩
def dkwX1_inRange_0 : List UInt8 := [30, 32, 148, 155, 0, 14, 30, 22, 4, 148, 157, 0, 7, 4, 167, 0, 4, 3, 172]
abbrev dktX1_inRange_0 : List UInt8 := dkwX1_inRange_0 ++ []
theorem dksX1_inRange_0 : cX1_inRange.data.toList.drop 0 = dktX1_inRange_0 := by decide +kernel
theorem dX1_inRange_0 : decode cX1_inRange 0 = .ok (.lload_n 0, 1) := dk_30 (dk_at dksX1_inRange_0 0 rfl rfl)
theorem dX1_inRange_1 : decode cX1_inRange 1 = .ok (.lload_n 2, 1) := dk_32 (dk_at dksX1_inRange_0 1 rfl rfl)
theorem dX1_inRange_2 : decode cX1_inRange 2 = .ok (.lcmp, 1) := dk_148 (dk_at dksX1_inRange_0 2 rfl rfl)
theorem dX1_inRange_3 : decode cX1_inRange 3 = .ok (.ifCond .lt 14, 3) := dk_155 0 14 (dk_at dksX1_inRange_0 3 rfl rfl)
theorem dX1_inRange_6 : decode cX1_inRange 6 = .ok (.lload_n 0, 1) := dk_30 (dk_at dksX1_inRange_0 6 rfl rfl)
theorem dX1_inRange_7 : decode cX1_inRange 7 = .ok (.lload 4, 2) := dk_22 4 (dk_at dksX1_inRange_0 7 rfl rfl)
theorem dX1_inRange_9 : decode cX1_inRange 9 = .ok (.lcmp, 1) := dk_148 (dk_at dksX1_inRange_0 9 rfl rfl)
theorem dX1_inRange_10 : decode cX1_inRange 10 = .ok (.ifCond .gt 7, 3) := dk_157 0 7 (dk_at dksX1_inRange_0 10 rfl rfl)
theorem dX1_inRange_13 : decode cX1_inRange 13 = .ok (.iconst 1, 1) := dk_4 (dk_at dksX1_inRange_0 13 rfl rfl)
theorem dX1_inRange_14 : decode cX1_inRange 14 = .ok (.goto 4, 3) := dk_167 0 4 (dk_at dksX1_inRange_0 14 rfl rfl)
theorem dX1_inRange_17 : decode cX1_inRange 17 = .ok (.iconst 0, 1) := dk_3 (dk_at dksX1_inRange_0 17 rfl rfl)
theorem dX1_inRange_18 : decode cX1_inRange 18 = .ok (.ireturn, 1) := dk_172 (dk_at dksX1_inRange_0 18 rfl rfl)
abbrev cX1_restoreSnapshot : ByteArray := prog_1_method_76_code
def yX1_restoreSnapshot : MethodName := ⟨RX1, "restoreSnapshot", "(I)Z"⟩
def dkwX1_restoreSnapshot_1 : List UInt8 := [180, 0, 43, 27, 50, 182, 1, 182, 181, 0, 39, 4, 172]
abbrev dktX1_restoreSnapshot_1 : List UInt8 := dkwX1_restoreSnapshot_1 ++ []
def dkwX1_restoreSnapshot_0 : List UInt8 := [27, 133, 9, 10, 184, 0, 84, 153, 0, 12, 42, 180, 0, 43, 27, 50, 199, 0, 5, 3, 172, 42, 42]
abbrev dktX1_restoreSnapshot_0 : List UInt8 := dkwX1_restoreSnapshot_0 ++ dktX1_restoreSnapshot_1
theorem dksX1_restoreSnapshot_0 : cX1_restoreSnapshot.data.toList.drop 0 = dktX1_restoreSnapshot_0 := by decide +kernel
theorem dksX1_restoreSnapshot_1 : cX1_restoreSnapshot.data.toList.drop 23 = dktX1_restoreSnapshot_1 := dk_seg dksX1_restoreSnapshot_0 23 rfl rfl
theorem dX1_restoreSnapshot_0 : decode cX1_restoreSnapshot 0 = .ok (.iload_n 1, 1) := dk_27 (dk_at dksX1_restoreSnapshot_0 0 rfl rfl)
theorem dX1_restoreSnapshot_1 : decode cX1_restoreSnapshot 1 = .ok (.i2l, 1) := dk_133 (dk_at dksX1_restoreSnapshot_0 1 rfl rfl)
theorem dX1_restoreSnapshot_2 : decode cX1_restoreSnapshot 2 = .ok (.lconst 0, 1) := dk_9 (dk_at dksX1_restoreSnapshot_0 2 rfl rfl)
theorem dX1_restoreSnapshot_3 : decode cX1_restoreSnapshot 3 = .ok (.lconst 1, 1) := dk_10 (dk_at dksX1_restoreSnapshot_0 3 rfl rfl)
theorem dX1_restoreSnapshot_4 : decode cX1_restoreSnapshot 4 = .ok (.invokestatic 84, 3) := dk_184 0 84 (dk_at dksX1_restoreSnapshot_0 4 rfl rfl)
theorem dX1_restoreSnapshot_7 : decode cX1_restoreSnapshot 7 = .ok (.ifCond .eq 12, 3) := dk_153 0 12 (dk_at dksX1_restoreSnapshot_0 7 rfl rfl)
theorem dX1_restoreSnapshot_10 : decode cX1_restoreSnapshot 10 = .ok (.aload_n 0, 1) := dk_42 (dk_at dksX1_restoreSnapshot_0 10 rfl rfl)
theorem dX1_restoreSnapshot_11 : decode cX1_restoreSnapshot 11 = .ok (.getfield 43, 3) := dk_180 0 43 (dk_at dksX1_restoreSnapshot_0 11 rfl rfl)
theorem dX1_restoreSnapshot_14 : decode cX1_restoreSnapshot 14 = .ok (.iload_n 1, 1) := dk_27 (dk_at dksX1_restoreSnapshot_0 14 rfl rfl)
theorem dX1_restoreSnapshot_15 : decode cX1_restoreSnapshot 15 = .ok (.aaload, 1) := dk_50 (dk_at dksX1_restoreSnapshot_0 15 rfl rfl)
theorem dX1_restoreSnapshot_16 : decode cX1_restoreSnapshot 16 = .ok (.ifnonnull 5, 3) := dk_199 0 5 (dk_at dksX1_restoreSnapshot_0 16 rfl rfl)
theorem dX1_restoreSnapshot_19 : decode cX1_restoreSnapshot 19 = .ok (.iconst 0, 1) := dk_3 (dk_at dksX1_restoreSnapshot_0 19 rfl rfl)
theorem dX1_restoreSnapshot_20 : decode cX1_restoreSnapshot 20 = .ok (.ireturn, 1) := dk_172 (dk_at dksX1_restoreSnapshot_0 20 rfl rfl)
theorem dX1_restoreSnapshot_21 : decode cX1_restoreSnapshot 21 = .ok (.aload_n 0, 1) := dk_42 (dk_at dksX1_restoreSnapshot_0 21 rfl rfl)
theorem dX1_restoreSnapshot_22 : decode cX1_restoreSnapshot 22 = .ok (.aload_n 0, 1) := dk_42 (dk_at dksX1_restoreSnapshot_0 22 rfl rfl)
theorem dX1_restoreSnapshot_23 : decode cX1_restoreSnapshot 23 = .ok (.getfield 43, 3) := dk_180 0 43 (dk_at dksX1_restoreSnapshot_1 0 rfl rfl)
theorem dX1_restoreSnapshot_26 : decode cX1_restoreSnapshot 26 = .ok (.iload_n 1, 1) := dk_27 (dk_at dksX1_restoreSnapshot_1 3 rfl rfl)
theorem dX1_restoreSnapshot_27 : decode cX1_restoreSnapshot 27 = .ok (.aaload, 1) := dk_50 (dk_at dksX1_restoreSnapshot_1 4 rfl rfl)
theorem dX1_restoreSnapshot_28 : decode cX1_restoreSnapshot 28 = .ok (.invokevirtual 438, 3) := dk_182 1 182 (dk_at dksX1_restoreSnapshot_1 5 rfl rfl)
theorem dX1_restoreSnapshot_31 : decode cX1_restoreSnapshot 31 = .ok (.putfield 39, 3) := dk_181 0 39 (dk_at dksX1_restoreSnapshot_1 8 rfl rfl)
theorem dX1_restoreSnapshot_34 : decode cX1_restoreSnapshot 34 = .ok (.iconst 1, 1) := dk_4 (dk_at dksX1_restoreSnapshot_1 11 rfl rfl)
theorem dX1_restoreSnapshot_35 : decode cX1_restoreSnapshot 35 = .ok (.ireturn, 1) := dk_172 (dk_at dksX1_restoreSnapshot_1 12 rfl rfl)
abbrev cX1_formattedByte : ByteArray := prog_1_method_80_code
def yX1_formattedByte : MethodName := ⟨RX1, "formattedByte", "(I)I"⟩
def dkwX1_formattedByte_1 : List UInt8 := [182, 1, 227, 167, 0, 4, 2, 172]
abbrev dktX1_formattedByte_1 : List UInt8 := dkwX1_formattedByte_1 ++ []
def dkwX1_formattedByte_0 : List UInt8 := [27, 133, 9, 42, 180, 0, 63, 182, 1, 186, 4, 100, 133, 184, 0, 84, 153, 0, 14, 42, 180, 0, 63, 27]
abbrev dktX1_formattedByte_0 : List UInt8 := dkwX1_formattedByte_0 ++ dktX1_formattedByte_1
theorem dksX1_formattedByte_0 : cX1_formattedByte.data.toList.drop 0 = dktX1_formattedByte_0 := by decide +kernel
theorem dksX1_formattedByte_1 : cX1_formattedByte.data.toList.drop 24 = dktX1_formattedByte_1 := dk_seg dksX1_formattedByte_0 24 rfl rfl
theorem dX1_formattedByte_0 : decode cX1_formattedByte 0 = .ok (.iload_n 1, 1) := dk_27 (dk_at dksX1_formattedByte_0 0 rfl rfl)
theorem dX1_formattedByte_1 : decode cX1_formattedByte 1 = .ok (.i2l, 1) := dk_133 (dk_at dksX1_formattedByte_0 1 rfl rfl)
theorem dX1_formattedByte_2 : decode cX1_formattedByte 2 = .ok (.lconst 0, 1) := dk_9 (dk_at dksX1_formattedByte_0 2 rfl rfl)
theorem dX1_formattedByte_3 : decode cX1_formattedByte 3 = .ok (.aload_n 0, 1) := dk_42 (dk_at dksX1_formattedByte_0 3 rfl rfl)
theorem dX1_formattedByte_4 : decode cX1_formattedByte 4 = .ok (.getfield 63, 3) := dk_180 0 63 (dk_at dksX1_formattedByte_0 4 rfl rfl)
theorem dX1_formattedByte_7 : decode cX1_formattedByte 7 = .ok (.invokevirtual 442, 3) := dk_182 1 186 (dk_at dksX1_formattedByte_0 7 rfl rfl)
theorem dX1_formattedByte_10 : decode cX1_formattedByte 10 = .ok (.iconst 1, 1) := dk_4 (dk_at dksX1_formattedByte_0 10 rfl rfl)
theorem dX1_formattedByte_11 : decode cX1_formattedByte 11 = .ok (.isub, 1) := dk_100 (dk_at dksX1_formattedByte_0 11 rfl rfl)
theorem dX1_formattedByte_12 : decode cX1_formattedByte 12 = .ok (.i2l, 1) := dk_133 (dk_at dksX1_formattedByte_0 12 rfl rfl)
theorem dX1_formattedByte_13 : decode cX1_formattedByte 13 = .ok (.invokestatic 84, 3) := dk_184 0 84 (dk_at dksX1_formattedByte_0 13 rfl rfl)
theorem dX1_formattedByte_16 : decode cX1_formattedByte 16 = .ok (.ifCond .eq 14, 3) := dk_153 0 14 (dk_at dksX1_formattedByte_0 16 rfl rfl)
theorem dX1_formattedByte_19 : decode cX1_formattedByte 19 = .ok (.aload_n 0, 1) := dk_42 (dk_at dksX1_formattedByte_0 19 rfl rfl)
theorem dX1_formattedByte_20 : decode cX1_formattedByte 20 = .ok (.getfield 63, 3) := dk_180 0 63 (dk_at dksX1_formattedByte_0 20 rfl rfl)
theorem dX1_formattedByte_23 : decode cX1_formattedByte 23 = .ok (.iload_n 1, 1) := dk_27 (dk_at dksX1_formattedByte_0 23 rfl rfl)
theorem dX1_formattedByte_24 : decode cX1_formattedByte 24 = .ok (.invokevirtual 483, 3) := dk_182 1 227 (dk_at dksX1_formattedByte_1 0 rfl rfl)
theorem dX1_formattedByte_27 : decode cX1_formattedByte 27 = .ok (.goto 4, 3) := dk_167 0 4 (dk_at dksX1_formattedByte_1 3 rfl rfl)
theorem dX1_formattedByte_30 : decode cX1_formattedByte 30 = .ok (.iconst (-1), 1) := dk_2 (dk_at dksX1_formattedByte_1 6 rfl rfl)
theorem dX1_formattedByte_31 : decode cX1_formattedByte 31 = .ok (.ireturn, 1) := dk_172 (dk_at dksX1_formattedByte_1 7 rfl rfl)
abbrev cX1_appendInput : ByteArray := prog_1_method_82_code
def yX1_appendInput : MethodName := ⟨RX1, "appendInput", "(IIIII)I"⟩
def dkwX1_appendInput_1 : List UInt8 := [21, 5, 79, 182, 1, 234, 172]
abbrev dktX1_appendInput_1 : List UInt8 := dkwX1_appendInput_1 ++ []
def dkwX1_appendInput_0 : List UInt8 := [42, 8, 188, 10, 89, 3, 27, 79, 89, 4, 28, 79, 89, 5, 29, 79, 89, 6, 21, 4, 79, 89, 7]
abbrev dktX1_appendInput_0 : List UInt8 := dkwX1_appendInput_0 ++ dktX1_appendInput_1
theorem dksX1_appendInput_0 : cX1_appendInput.data.toList.drop 0 = dktX1_appendInput_0 := by decide +kernel
theorem dksX1_appendInput_1 : cX1_appendInput.data.toList.drop 23 = dktX1_appendInput_1 := dk_seg dksX1_appendInput_0 23 rfl rfl
theorem dX1_appendInput_0 : decode cX1_appendInput 0 = .ok (.aload_n 0, 1) := dk_42 (dk_at dksX1_appendInput_0 0 rfl rfl)
theorem dX1_appendInput_1 : decode cX1_appendInput 1 = .ok (.iconst 5, 1) := dk_8 (dk_at dksX1_appendInput_0 1 rfl rfl)
theorem dX1_appendInput_2 : decode cX1_appendInput 2 = .ok (.newarray .int, 2) := dk_188_10 (dk_at dksX1_appendInput_0 2 rfl rfl)
theorem dX1_appendInput_4 : decode cX1_appendInput 4 = .ok (.dup, 1) := dk_89 (dk_at dksX1_appendInput_0 4 rfl rfl)
theorem dX1_appendInput_5 : decode cX1_appendInput 5 = .ok (.iconst 0, 1) := dk_3 (dk_at dksX1_appendInput_0 5 rfl rfl)
theorem dX1_appendInput_6 : decode cX1_appendInput 6 = .ok (.iload_n 1, 1) := dk_27 (dk_at dksX1_appendInput_0 6 rfl rfl)
theorem dX1_appendInput_7 : decode cX1_appendInput 7 = .ok (.iastore, 1) := dk_79 (dk_at dksX1_appendInput_0 7 rfl rfl)
theorem dX1_appendInput_8 : decode cX1_appendInput 8 = .ok (.dup, 1) := dk_89 (dk_at dksX1_appendInput_0 8 rfl rfl)
theorem dX1_appendInput_9 : decode cX1_appendInput 9 = .ok (.iconst 1, 1) := dk_4 (dk_at dksX1_appendInput_0 9 rfl rfl)
theorem dX1_appendInput_10 : decode cX1_appendInput 10 = .ok (.iload_n 2, 1) := dk_28 (dk_at dksX1_appendInput_0 10 rfl rfl)
theorem dX1_appendInput_11 : decode cX1_appendInput 11 = .ok (.iastore, 1) := dk_79 (dk_at dksX1_appendInput_0 11 rfl rfl)
theorem dX1_appendInput_12 : decode cX1_appendInput 12 = .ok (.dup, 1) := dk_89 (dk_at dksX1_appendInput_0 12 rfl rfl)
theorem dX1_appendInput_13 : decode cX1_appendInput 13 = .ok (.iconst 2, 1) := dk_5 (dk_at dksX1_appendInput_0 13 rfl rfl)
theorem dX1_appendInput_14 : decode cX1_appendInput 14 = .ok (.iload_n 3, 1) := dk_29 (dk_at dksX1_appendInput_0 14 rfl rfl)
theorem dX1_appendInput_15 : decode cX1_appendInput 15 = .ok (.iastore, 1) := dk_79 (dk_at dksX1_appendInput_0 15 rfl rfl)
theorem dX1_appendInput_16 : decode cX1_appendInput 16 = .ok (.dup, 1) := dk_89 (dk_at dksX1_appendInput_0 16 rfl rfl)
theorem dX1_appendInput_17 : decode cX1_appendInput 17 = .ok (.iconst 3, 1) := dk_6 (dk_at dksX1_appendInput_0 17 rfl rfl)
theorem dX1_appendInput_18 : decode cX1_appendInput 18 = .ok (.iload 4, 2) := dk_21 4 (dk_at dksX1_appendInput_0 18 rfl rfl)
theorem dX1_appendInput_20 : decode cX1_appendInput 20 = .ok (.iastore, 1) := dk_79 (dk_at dksX1_appendInput_0 20 rfl rfl)
theorem dX1_appendInput_21 : decode cX1_appendInput 21 = .ok (.dup, 1) := dk_89 (dk_at dksX1_appendInput_0 21 rfl rfl)
theorem dX1_appendInput_22 : decode cX1_appendInput 22 = .ok (.iconst 4, 1) := dk_7 (dk_at dksX1_appendInput_0 22 rfl rfl)
theorem dX1_appendInput_23 : decode cX1_appendInput 23 = .ok (.iload 5, 2) := dk_21 5 (dk_at dksX1_appendInput_1 0 rfl rfl)
theorem dX1_appendInput_25 : decode cX1_appendInput 25 = .ok (.iastore, 1) := dk_79 (dk_at dksX1_appendInput_1 2 rfl rfl)
theorem dX1_appendInput_26 : decode cX1_appendInput 26 = .ok (.invokevirtual 490, 3) := dk_182 1 234 (dk_at dksX1_appendInput_1 3 rfl rfl)
theorem dX1_appendInput_29 : decode cX1_appendInput 29 = .ok (.ireturn, 1) := dk_172 (dk_at dksX1_appendInput_1 6 rfl rfl)
abbrev cX1_append : ByteArray := prog_1_method_81_code
def yX1_append : MethodName := ⟨RX1, "append", "([I)I"⟩
def dkwX1_append_3 : List UInt8 := [132, 6, 248, 167, 255, 223, 132, 4, 1, 167, 255, 201, 42, 180, 1, 231, 172]
abbrev dktX1_append_3 : List UInt8 := dkwX1_append_3 ++ []
def dkwX1_append_2 : List UInt8 := [180, 0, 67, 42, 180, 1, 231, 21, 5, 21, 6, 122, 145, 84, 42, 89, 180, 1, 231, 4, 96, 181, 1, 231]
abbrev dktX1_append_2 : List UInt8 := dkwX1_append_2 ++ dktX1_append_3
def dkwX1_append_1 : List UInt8 := [54, 4, 21, 4, 29, 162, 0, 55, 44, 21, 4, 46, 54, 5, 16, 24, 54, 6, 21, 6, 155, 0, 34, 42]
abbrev dktX1_append_1 : List UInt8 := dkwX1_append_1 ++ dktX1_append_2
def dkwX1_append_0 : List UInt8 := [42, 180, 1, 231, 7, 43, 190, 104, 96, 17, 5, 220, 164, 0, 5, 2, 172, 43, 77, 44, 190, 62, 3]
abbrev dktX1_append_0 : List UInt8 := dkwX1_append_0 ++ dktX1_append_1
theorem dksX1_append_0 : cX1_append.data.toList.drop 0 = dktX1_append_0 := by decide +kernel
theorem dksX1_append_1 : cX1_append.data.toList.drop 23 = dktX1_append_1 := dk_seg dksX1_append_0 23 rfl rfl
theorem dksX1_append_2 : cX1_append.data.toList.drop 47 = dktX1_append_2 := dk_seg dksX1_append_1 24 rfl rfl
theorem dksX1_append_3 : cX1_append.data.toList.drop 71 = dktX1_append_3 := dk_seg dksX1_append_2 24 rfl rfl
theorem dX1_append_0 : decode cX1_append 0 = .ok (.aload_n 0, 1) := dk_42 (dk_at dksX1_append_0 0 rfl rfl)
theorem dX1_append_1 : decode cX1_append 1 = .ok (.getfield 487, 3) := dk_180 1 231 (dk_at dksX1_append_0 1 rfl rfl)
theorem dX1_append_4 : decode cX1_append 4 = .ok (.iconst 4, 1) := dk_7 (dk_at dksX1_append_0 4 rfl rfl)
theorem dX1_append_5 : decode cX1_append 5 = .ok (.aload_n 1, 1) := dk_43 (dk_at dksX1_append_0 5 rfl rfl)
theorem dX1_append_6 : decode cX1_append 6 = .ok (.arraylength, 1) := dk_190 (dk_at dksX1_append_0 6 rfl rfl)
theorem dX1_append_7 : decode cX1_append 7 = .ok (.imul, 1) := dk_104 (dk_at dksX1_append_0 7 rfl rfl)
theorem dX1_append_8 : decode cX1_append 8 = .ok (.iadd, 1) := dk_96 (dk_at dksX1_append_0 8 rfl rfl)
theorem dX1_append_9 : decode cX1_append 9 = .ok (.sipush 1500, 3) := dk_17 5 220 (dk_at dksX1_append_0 9 rfl rfl)
theorem dX1_append_12 : decode cX1_append 12 = .ok (.if_icmp .le 5, 3) := dk_164 0 5 (dk_at dksX1_append_0 12 rfl rfl)
theorem dX1_append_15 : decode cX1_append 15 = .ok (.iconst (-1), 1) := dk_2 (dk_at dksX1_append_0 15 rfl rfl)
theorem dX1_append_16 : decode cX1_append 16 = .ok (.ireturn, 1) := dk_172 (dk_at dksX1_append_0 16 rfl rfl)
theorem dX1_append_17 : decode cX1_append 17 = .ok (.aload_n 1, 1) := dk_43 (dk_at dksX1_append_0 17 rfl rfl)
theorem dX1_append_18 : decode cX1_append 18 = .ok (.astore_n 2, 1) := dk_77 (dk_at dksX1_append_0 18 rfl rfl)
theorem dX1_append_19 : decode cX1_append 19 = .ok (.aload_n 2, 1) := dk_44 (dk_at dksX1_append_0 19 rfl rfl)
theorem dX1_append_20 : decode cX1_append 20 = .ok (.arraylength, 1) := dk_190 (dk_at dksX1_append_0 20 rfl rfl)
theorem dX1_append_21 : decode cX1_append 21 = .ok (.istore_n 3, 1) := dk_62 (dk_at dksX1_append_0 21 rfl rfl)
theorem dX1_append_22 : decode cX1_append 22 = .ok (.iconst 0, 1) := dk_3 (dk_at dksX1_append_0 22 rfl rfl)
theorem dX1_append_23 : decode cX1_append 23 = .ok (.istore 4, 2) := dk_54 4 (dk_at dksX1_append_1 0 rfl rfl)
theorem dX1_append_25 : decode cX1_append 25 = .ok (.iload 4, 2) := dk_21 4 (dk_at dksX1_append_1 2 rfl rfl)
theorem dX1_append_27 : decode cX1_append 27 = .ok (.iload_n 3, 1) := dk_29 (dk_at dksX1_append_1 4 rfl rfl)
theorem dX1_append_28 : decode cX1_append 28 = .ok (.if_icmp .ge 55, 3) := dk_162 0 55 (dk_at dksX1_append_1 5 rfl rfl)
theorem dX1_append_31 : decode cX1_append 31 = .ok (.aload_n 2, 1) := dk_44 (dk_at dksX1_append_1 8 rfl rfl)
theorem dX1_append_32 : decode cX1_append 32 = .ok (.iload 4, 2) := dk_21 4 (dk_at dksX1_append_1 9 rfl rfl)
theorem dX1_append_34 : decode cX1_append 34 = .ok (.iaload, 1) := dk_46 (dk_at dksX1_append_1 11 rfl rfl)
theorem dX1_append_35 : decode cX1_append 35 = .ok (.istore 5, 2) := dk_54 5 (dk_at dksX1_append_1 12 rfl rfl)
theorem dX1_append_37 : decode cX1_append 37 = .ok (.bipush 24, 2) := dk_16 24 (dk_at dksX1_append_1 14 rfl rfl)
theorem dX1_append_39 : decode cX1_append 39 = .ok (.istore 6, 2) := dk_54 6 (dk_at dksX1_append_1 16 rfl rfl)
theorem dX1_append_41 : decode cX1_append 41 = .ok (.iload 6, 2) := dk_21 6 (dk_at dksX1_append_1 18 rfl rfl)
theorem dX1_append_43 : decode cX1_append 43 = .ok (.ifCond .lt 34, 3) := dk_155 0 34 (dk_at dksX1_append_1 20 rfl rfl)
theorem dX1_append_46 : decode cX1_append 46 = .ok (.aload_n 0, 1) := dk_42 (dk_at dksX1_append_1 23 rfl rfl)
theorem dX1_append_47 : decode cX1_append 47 = .ok (.getfield 67, 3) := dk_180 0 67 (dk_at dksX1_append_2 0 rfl rfl)
theorem dX1_append_50 : decode cX1_append 50 = .ok (.aload_n 0, 1) := dk_42 (dk_at dksX1_append_2 3 rfl rfl)
theorem dX1_append_51 : decode cX1_append 51 = .ok (.getfield 487, 3) := dk_180 1 231 (dk_at dksX1_append_2 4 rfl rfl)
theorem dX1_append_54 : decode cX1_append 54 = .ok (.iload 5, 2) := dk_21 5 (dk_at dksX1_append_2 7 rfl rfl)
theorem dX1_append_56 : decode cX1_append 56 = .ok (.iload 6, 2) := dk_21 6 (dk_at dksX1_append_2 9 rfl rfl)
theorem dX1_append_58 : decode cX1_append 58 = .ok (.ishr, 1) := dk_122 (dk_at dksX1_append_2 11 rfl rfl)
theorem dX1_append_59 : decode cX1_append 59 = .ok (.i2b, 1) := dk_145 (dk_at dksX1_append_2 12 rfl rfl)
theorem dX1_append_60 : decode cX1_append 60 = .ok (.bastore, 1) := dk_84 (dk_at dksX1_append_2 13 rfl rfl)
theorem dX1_append_61 : decode cX1_append 61 = .ok (.aload_n 0, 1) := dk_42 (dk_at dksX1_append_2 14 rfl rfl)
theorem dX1_append_62 : decode cX1_append 62 = .ok (.dup, 1) := dk_89 (dk_at dksX1_append_2 15 rfl rfl)
theorem dX1_append_63 : decode cX1_append 63 = .ok (.getfield 487, 3) := dk_180 1 231 (dk_at dksX1_append_2 16 rfl rfl)
theorem dX1_append_66 : decode cX1_append 66 = .ok (.iconst 1, 1) := dk_4 (dk_at dksX1_append_2 19 rfl rfl)
theorem dX1_append_67 : decode cX1_append 67 = .ok (.iadd, 1) := dk_96 (dk_at dksX1_append_2 20 rfl rfl)
theorem dX1_append_68 : decode cX1_append 68 = .ok (.putfield 487, 3) := dk_181 1 231 (dk_at dksX1_append_2 21 rfl rfl)
theorem dX1_append_71 : decode cX1_append 71 = .ok (.iinc 6 (-8), 3) := dk_132 6 248 (dk_at dksX1_append_3 0 rfl rfl)
theorem dX1_append_74 : decode cX1_append 74 = .ok (.goto (-33), 3) := dk_167 255 223 (dk_at dksX1_append_3 3 rfl rfl)
theorem dX1_append_77 : decode cX1_append 77 = .ok (.iinc 4 1, 3) := dk_132 4 1 (dk_at dksX1_append_3 6 rfl rfl)
theorem dX1_append_80 : decode cX1_append 80 = .ok (.goto (-55), 3) := dk_167 255 201 (dk_at dksX1_append_3 9 rfl rfl)
theorem dX1_append_83 : decode cX1_append 83 = .ok (.aload_n 0, 1) := dk_42 (dk_at dksX1_append_3 12 rfl rfl)
theorem dX1_append_84 : decode cX1_append 84 = .ok (.getfield 487, 3) := dk_180 1 231 (dk_at dksX1_append_3 13 rfl rfl)
theorem dX1_append_87 : decode cX1_append 87 = .ok (.ireturn, 1) := dk_172 (dk_at dksX1_append_3 16 rfl rfl)
abbrev cX1_truncateInput : ByteArray := prog_1_method_83_code
def yX1_truncateInput : MethodName := ⟨RX1, "truncateInput", "(I)I"⟩
def dkwX1_truncateInput_0 : List UInt8 := [27, 133, 9, 42, 180, 1, 231, 133, 184, 0, 84, 154, 0, 5, 2, 172, 42, 27, 181, 1, 231, 27, 172]
abbrev dktX1_truncateInput_0 : List UInt8 := dkwX1_truncateInput_0 ++ []
theorem dksX1_truncateInput_0 : cX1_truncateInput.data.toList.drop 0 = dktX1_truncateInput_0 := by decide +kernel
theorem dX1_truncateInput_0 : decode cX1_truncateInput 0 = .ok (.iload_n 1, 1) := dk_27 (dk_at dksX1_truncateInput_0 0 rfl rfl)
theorem dX1_truncateInput_1 : decode cX1_truncateInput 1 = .ok (.i2l, 1) := dk_133 (dk_at dksX1_truncateInput_0 1 rfl rfl)
theorem dX1_truncateInput_2 : decode cX1_truncateInput 2 = .ok (.lconst 0, 1) := dk_9 (dk_at dksX1_truncateInput_0 2 rfl rfl)
theorem dX1_truncateInput_3 : decode cX1_truncateInput 3 = .ok (.aload_n 0, 1) := dk_42 (dk_at dksX1_truncateInput_0 3 rfl rfl)
theorem dX1_truncateInput_4 : decode cX1_truncateInput 4 = .ok (.getfield 487, 3) := dk_180 1 231 (dk_at dksX1_truncateInput_0 4 rfl rfl)
theorem dX1_truncateInput_7 : decode cX1_truncateInput 7 = .ok (.i2l, 1) := dk_133 (dk_at dksX1_truncateInput_0 7 rfl rfl)
theorem dX1_truncateInput_8 : decode cX1_truncateInput 8 = .ok (.invokestatic 84, 3) := dk_184 0 84 (dk_at dksX1_truncateInput_0 8 rfl rfl)
theorem dX1_truncateInput_11 : decode cX1_truncateInput 11 = .ok (.ifCond .ne 5, 3) := dk_154 0 5 (dk_at dksX1_truncateInput_0 11 rfl rfl)
theorem dX1_truncateInput_14 : decode cX1_truncateInput 14 = .ok (.iconst (-1), 1) := dk_2 (dk_at dksX1_truncateInput_0 14 rfl rfl)
theorem dX1_truncateInput_15 : decode cX1_truncateInput 15 = .ok (.ireturn, 1) := dk_172 (dk_at dksX1_truncateInput_0 15 rfl rfl)
theorem dX1_truncateInput_16 : decode cX1_truncateInput 16 = .ok (.aload_n 0, 1) := dk_42 (dk_at dksX1_truncateInput_0 16 rfl rfl)
theorem dX1_truncateInput_17 : decode cX1_truncateInput 17 = .ok (.iload_n 1, 1) := dk_27 (dk_at dksX1_truncateInput_0 17 rfl rfl)
theorem dX1_truncateInput_18 : decode cX1_truncateInput 18 = .ok (.putfield 487, 3) := dk_181 1 231 (dk_at dksX1_truncateInput_0 18 rfl rfl)
theorem dX1_truncateInput_21 : decode cX1_truncateInput 21 = .ok (.iload_n 1, 1) := dk_27 (dk_at dksX1_truncateInput_0 21 rfl rfl)
theorem dX1_truncateInput_22 : decode cX1_truncateInput 22 = .ok (.ireturn, 1) := dk_172 (dk_at dksX1_truncateInput_0 22 rfl rfl)
abbrev cX1_find : ByteArray := prog_1_method_84_code
def yX1_find : MethodName := ⟨RX1, "find", "()I"⟩
def dkwX1_find_2 : List UInt8 := [181, 1, 231, 42, 180, 0, 30, 43, 182, 1, 237, 172]
abbrev dktX1_find_2 : List UInt8 := dkwX1_find_2 ++ []
def dkwX1_find_1 : List UInt8 := [180, 0, 67, 28, 51, 17, 0, 255, 126, 146, 182, 1, 189, 87, 132, 2, 1, 167, 255, 229, 42, 3]
abbrev dktX1_find_1 : List UInt8 := dkwX1_find_1 ++ dktX1_find_2
def dkwX1_find_0 : List UInt8 := [187, 0, 58, 89, 16, 10, 183, 0, 60, 76, 3, 61, 28, 42, 180, 1, 231, 162, 0, 25, 43, 42]
abbrev dktX1_find_0 : List UInt8 := dkwX1_find_0 ++ dktX1_find_1
theorem dksX1_find_0 : cX1_find.data.toList.drop 0 = dktX1_find_0 := by decide +kernel
theorem dksX1_find_1 : cX1_find.data.toList.drop 22 = dktX1_find_1 := dk_seg dksX1_find_0 22 rfl rfl
theorem dksX1_find_2 : cX1_find.data.toList.drop 44 = dktX1_find_2 := dk_seg dksX1_find_1 22 rfl rfl
theorem dX1_find_0 : decode cX1_find 0 = .ok (.new 58, 3) := dk_187 0 58 (dk_at dksX1_find_0 0 rfl rfl)
theorem dX1_find_3 : decode cX1_find 3 = .ok (.dup, 1) := dk_89 (dk_at dksX1_find_0 3 rfl rfl)
theorem dX1_find_4 : decode cX1_find 4 = .ok (.bipush 10, 2) := dk_16 10 (dk_at dksX1_find_0 4 rfl rfl)
theorem dX1_find_6 : decode cX1_find 6 = .ok (.invokespecial 60, 3) := dk_183 0 60 (dk_at dksX1_find_0 6 rfl rfl)
theorem dX1_find_9 : decode cX1_find 9 = .ok (.astore_n 1, 1) := dk_76 (dk_at dksX1_find_0 9 rfl rfl)
theorem dX1_find_10 : decode cX1_find 10 = .ok (.iconst 0, 1) := dk_3 (dk_at dksX1_find_0 10 rfl rfl)
theorem dX1_find_11 : decode cX1_find 11 = .ok (.istore_n 2, 1) := dk_61 (dk_at dksX1_find_0 11 rfl rfl)
theorem dX1_find_12 : decode cX1_find 12 = .ok (.iload_n 2, 1) := dk_28 (dk_at dksX1_find_0 12 rfl rfl)
theorem dX1_find_13 : decode cX1_find 13 = .ok (.aload_n 0, 1) := dk_42 (dk_at dksX1_find_0 13 rfl rfl)
theorem dX1_find_14 : decode cX1_find 14 = .ok (.getfield 487, 3) := dk_180 1 231 (dk_at dksX1_find_0 14 rfl rfl)
theorem dX1_find_17 : decode cX1_find 17 = .ok (.if_icmp .ge 25, 3) := dk_162 0 25 (dk_at dksX1_find_0 17 rfl rfl)
theorem dX1_find_20 : decode cX1_find 20 = .ok (.aload_n 1, 1) := dk_43 (dk_at dksX1_find_0 20 rfl rfl)
theorem dX1_find_21 : decode cX1_find 21 = .ok (.aload_n 0, 1) := dk_42 (dk_at dksX1_find_0 21 rfl rfl)
theorem dX1_find_22 : decode cX1_find 22 = .ok (.getfield 67, 3) := dk_180 0 67 (dk_at dksX1_find_1 0 rfl rfl)
theorem dX1_find_25 : decode cX1_find 25 = .ok (.iload_n 2, 1) := dk_28 (dk_at dksX1_find_1 3 rfl rfl)
theorem dX1_find_26 : decode cX1_find 26 = .ok (.baload, 1) := dk_51 (dk_at dksX1_find_1 4 rfl rfl)
theorem dX1_find_27 : decode cX1_find 27 = .ok (.sipush 255, 3) := dk_17 0 255 (dk_at dksX1_find_1 5 rfl rfl)
theorem dX1_find_30 : decode cX1_find 30 = .ok (.iand, 1) := dk_126 (dk_at dksX1_find_1 8 rfl rfl)
theorem dX1_find_31 : decode cX1_find 31 = .ok (.i2c, 1) := dk_146 (dk_at dksX1_find_1 9 rfl rfl)
theorem dX1_find_32 : decode cX1_find 32 = .ok (.invokevirtual 445, 3) := dk_182 1 189 (dk_at dksX1_find_1 10 rfl rfl)
theorem dX1_find_35 : decode cX1_find 35 = .ok (.pop, 1) := dk_87 (dk_at dksX1_find_1 13 rfl rfl)
theorem dX1_find_36 : decode cX1_find 36 = .ok (.iinc 2 1, 3) := dk_132 2 1 (dk_at dksX1_find_1 14 rfl rfl)
theorem dX1_find_39 : decode cX1_find 39 = .ok (.goto (-27), 3) := dk_167 255 229 (dk_at dksX1_find_1 17 rfl rfl)
theorem dX1_find_42 : decode cX1_find 42 = .ok (.aload_n 0, 1) := dk_42 (dk_at dksX1_find_1 20 rfl rfl)
theorem dX1_find_43 : decode cX1_find 43 = .ok (.iconst 0, 1) := dk_3 (dk_at dksX1_find_1 21 rfl rfl)
theorem dX1_find_44 : decode cX1_find 44 = .ok (.putfield 487, 3) := dk_181 1 231 (dk_at dksX1_find_2 0 rfl rfl)
theorem dX1_find_47 : decode cX1_find 47 = .ok (.aload_n 0, 1) := dk_42 (dk_at dksX1_find_2 3 rfl rfl)
theorem dX1_find_48 : decode cX1_find 48 = .ok (.getfield 30, 3) := dk_180 0 30 (dk_at dksX1_find_2 4 rfl rfl)
theorem dX1_find_51 : decode cX1_find 51 = .ok (.aload_n 1, 1) := dk_43 (dk_at dksX1_find_2 7 rfl rfl)
theorem dX1_find_52 : decode cX1_find 52 = .ok (.invokevirtual 493, 3) := dk_182 1 237 (dk_at dksX1_find_2 8 rfl rfl)
theorem dX1_find_55 : decode cX1_find 55 = .ok (.ireturn, 1) := dk_172 (dk_at dksX1_find_2 11 rfl rfl)
abbrev cX1_loadJournal : ByteArray := prog_1_method_86_code
def yX1_loadJournal : MethodName := ⟨RX1, "loadJournal", "()I"⟩
def dkwX1_loadJournal_3 : List UInt8 := [167, 255, 226, 42, 180, 0, 54, 182, 0, 120, 172]
abbrev dktX1_loadJournal_3 : List UInt8 := dkwX1_loadJournal_3 ++ []
def dkwX1_loadJournal_2 : List UInt8 := [162, 0, 26, 42, 180, 0, 54, 43, 28, 185, 0, 96, 2, 0, 192, 1, 123, 182, 2, 13, 132, 2, 1]
abbrev dktX1_loadJournal_2 : List UInt8 := dkwX1_loadJournal_2 ++ dktX1_loadJournal_3
def dkwX1_loadJournal_1 : List UInt8 := [77, 42, 44, 182, 2, 6, 172, 42, 180, 0, 54, 182, 2, 10, 3, 61, 28, 43, 185, 0, 78, 1, 0]
abbrev dktX1_loadJournal_1 : List UInt8 := dkwX1_loadJournal_1 ++ dktX1_loadJournal_2
def dkwX1_loadJournal_0 : List UInt8 := [187, 1, 252, 89, 5, 183, 1, 254, 76, 187, 1, 255, 89, 42, 183, 2, 1, 43, 182, 2, 2, 167, 0, 10]
abbrev dktX1_loadJournal_0 : List UInt8 := dkwX1_loadJournal_0 ++ dktX1_loadJournal_1
theorem dksX1_loadJournal_0 : cX1_loadJournal.data.toList.drop 0 = dktX1_loadJournal_0 := by decide +kernel
theorem dksX1_loadJournal_1 : cX1_loadJournal.data.toList.drop 24 = dktX1_loadJournal_1 := dk_seg dksX1_loadJournal_0 24 rfl rfl
theorem dksX1_loadJournal_2 : cX1_loadJournal.data.toList.drop 47 = dktX1_loadJournal_2 := dk_seg dksX1_loadJournal_1 23 rfl rfl
theorem dksX1_loadJournal_3 : cX1_loadJournal.data.toList.drop 70 = dktX1_loadJournal_3 := dk_seg dksX1_loadJournal_2 23 rfl rfl
theorem dX1_loadJournal_0 : decode cX1_loadJournal 0 = .ok (.new 508, 3) := dk_187 1 252 (dk_at dksX1_loadJournal_0 0 rfl rfl)
theorem dX1_loadJournal_3 : decode cX1_loadJournal 3 = .ok (.dup, 1) := dk_89 (dk_at dksX1_loadJournal_0 3 rfl rfl)
theorem dX1_loadJournal_4 : decode cX1_loadJournal 4 = .ok (.iconst 2, 1) := dk_5 (dk_at dksX1_loadJournal_0 4 rfl rfl)
theorem dX1_loadJournal_5 : decode cX1_loadJournal 5 = .ok (.invokespecial 510, 3) := dk_183 1 254 (dk_at dksX1_loadJournal_0 5 rfl rfl)
theorem dX1_loadJournal_8 : decode cX1_loadJournal 8 = .ok (.astore_n 1, 1) := dk_76 (dk_at dksX1_loadJournal_0 8 rfl rfl)
theorem dX1_loadJournal_9 : decode cX1_loadJournal 9 = .ok (.new 511, 3) := dk_187 1 255 (dk_at dksX1_loadJournal_0 9 rfl rfl)
theorem dX1_loadJournal_12 : decode cX1_loadJournal 12 = .ok (.dup, 1) := dk_89 (dk_at dksX1_loadJournal_0 12 rfl rfl)
theorem dX1_loadJournal_13 : decode cX1_loadJournal 13 = .ok (.aload_n 0, 1) := dk_42 (dk_at dksX1_loadJournal_0 13 rfl rfl)
theorem dX1_loadJournal_14 : decode cX1_loadJournal 14 = .ok (.invokespecial 513, 3) := dk_183 2 1 (dk_at dksX1_loadJournal_0 14 rfl rfl)
theorem dX1_loadJournal_17 : decode cX1_loadJournal 17 = .ok (.aload_n 1, 1) := dk_43 (dk_at dksX1_loadJournal_0 17 rfl rfl)
theorem dX1_loadJournal_18 : decode cX1_loadJournal 18 = .ok (.invokevirtual 514, 3) := dk_182 2 2 (dk_at dksX1_loadJournal_0 18 rfl rfl)
theorem dX1_loadJournal_21 : decode cX1_loadJournal 21 = .ok (.goto 10, 3) := dk_167 0 10 (dk_at dksX1_loadJournal_0 21 rfl rfl)
theorem dX1_loadJournal_24 : decode cX1_loadJournal 24 = .ok (.astore_n 2, 1) := dk_77 (dk_at dksX1_loadJournal_1 0 rfl rfl)
theorem dX1_loadJournal_25 : decode cX1_loadJournal 25 = .ok (.aload_n 0, 1) := dk_42 (dk_at dksX1_loadJournal_1 1 rfl rfl)
theorem dX1_loadJournal_26 : decode cX1_loadJournal 26 = .ok (.aload_n 2, 1) := dk_44 (dk_at dksX1_loadJournal_1 2 rfl rfl)
theorem dX1_loadJournal_27 : decode cX1_loadJournal 27 = .ok (.invokevirtual 518, 3) := dk_182 2 6 (dk_at dksX1_loadJournal_1 3 rfl rfl)
theorem dX1_loadJournal_30 : decode cX1_loadJournal 30 = .ok (.ireturn, 1) := dk_172 (dk_at dksX1_loadJournal_1 6 rfl rfl)
theorem dX1_loadJournal_31 : decode cX1_loadJournal 31 = .ok (.aload_n 0, 1) := dk_42 (dk_at dksX1_loadJournal_1 7 rfl rfl)
theorem dX1_loadJournal_32 : decode cX1_loadJournal 32 = .ok (.getfield 54, 3) := dk_180 0 54 (dk_at dksX1_loadJournal_1 8 rfl rfl)
theorem dX1_loadJournal_35 : decode cX1_loadJournal 35 = .ok (.invokevirtual 522, 3) := dk_182 2 10 (dk_at dksX1_loadJournal_1 11 rfl rfl)
theorem dX1_loadJournal_38 : decode cX1_loadJournal 38 = .ok (.iconst 0, 1) := dk_3 (dk_at dksX1_loadJournal_1 14 rfl rfl)
theorem dX1_loadJournal_39 : decode cX1_loadJournal 39 = .ok (.istore_n 2, 1) := dk_61 (dk_at dksX1_loadJournal_1 15 rfl rfl)
theorem dX1_loadJournal_40 : decode cX1_loadJournal 40 = .ok (.iload_n 2, 1) := dk_28 (dk_at dksX1_loadJournal_1 16 rfl rfl)
theorem dX1_loadJournal_41 : decode cX1_loadJournal 41 = .ok (.aload_n 1, 1) := dk_43 (dk_at dksX1_loadJournal_1 17 rfl rfl)
theorem dX1_loadJournal_42 : decode cX1_loadJournal 42 = .ok (.invokeinterface 78 1, 5) := by decide +kernel
theorem dX1_loadJournal_47 : decode cX1_loadJournal 47 = .ok (.if_icmp .ge 26, 3) := dk_162 0 26 (dk_at dksX1_loadJournal_2 0 rfl rfl)
theorem dX1_loadJournal_50 : decode cX1_loadJournal 50 = .ok (.aload_n 0, 1) := dk_42 (dk_at dksX1_loadJournal_2 3 rfl rfl)
theorem dX1_loadJournal_51 : decode cX1_loadJournal 51 = .ok (.getfield 54, 3) := dk_180 0 54 (dk_at dksX1_loadJournal_2 4 rfl rfl)
theorem dX1_loadJournal_54 : decode cX1_loadJournal 54 = .ok (.aload_n 1, 1) := dk_43 (dk_at dksX1_loadJournal_2 7 rfl rfl)
theorem dX1_loadJournal_55 : decode cX1_loadJournal 55 = .ok (.iload_n 2, 1) := dk_28 (dk_at dksX1_loadJournal_2 8 rfl rfl)
theorem dX1_loadJournal_56 : decode cX1_loadJournal 56 = .ok (.invokeinterface 96 2, 5) := by decide +kernel
theorem dX1_loadJournal_61 : decode cX1_loadJournal 61 = .ok (.checkcast 379, 3) := dk_192 1 123 (dk_at dksX1_loadJournal_2 14 rfl rfl)
theorem dX1_loadJournal_64 : decode cX1_loadJournal 64 = .ok (.invokevirtual 525, 3) := dk_182 2 13 (dk_at dksX1_loadJournal_2 17 rfl rfl)
theorem dX1_loadJournal_67 : decode cX1_loadJournal 67 = .ok (.iinc 2 1, 3) := dk_132 2 1 (dk_at dksX1_loadJournal_2 20 rfl rfl)
theorem dX1_loadJournal_70 : decode cX1_loadJournal 70 = .ok (.goto (-30), 3) := dk_167 255 226 (dk_at dksX1_loadJournal_3 0 rfl rfl)
theorem dX1_loadJournal_73 : decode cX1_loadJournal 73 = .ok (.aload_n 0, 1) := dk_42 (dk_at dksX1_loadJournal_3 3 rfl rfl)
theorem dX1_loadJournal_74 : decode cX1_loadJournal 74 = .ok (.getfield 54, 3) := dk_180 0 54 (dk_at dksX1_loadJournal_3 4 rfl rfl)
theorem dX1_loadJournal_77 : decode cX1_loadJournal 77 = .ok (.invokevirtual 120, 3) := dk_182 0 120 (dk_at dksX1_loadJournal_3 7 rfl rfl)
theorem dX1_loadJournal_80 : decode cX1_loadJournal 80 = .ok (.ireturn, 1) := dk_172 (dk_at dksX1_loadJournal_3 10 rfl rfl)
abbrev cX1_fail : ByteArray := prog_1_method_85_code
def yX1_fail : MethodName := ⟨RX1, "fail", "(LFranchiseLedger$TextError;)I"⟩
def dkwX1_fail_0 : List UInt8 := [42, 43, 180, 1, 241, 181, 1, 246, 42, 43, 180, 1, 249, 181, 0, 70, 16, 252, 172]
abbrev dktX1_fail_0 : List UInt8 := dkwX1_fail_0 ++ []
theorem dksX1_fail_0 : cX1_fail.data.toList.drop 0 = dktX1_fail_0 := by decide +kernel
theorem dX1_fail_0 : decode cX1_fail 0 = .ok (.aload_n 0, 1) := dk_42 (dk_at dksX1_fail_0 0 rfl rfl)
theorem dX1_fail_1 : decode cX1_fail 1 = .ok (.aload_n 1, 1) := dk_43 (dk_at dksX1_fail_0 1 rfl rfl)
theorem dX1_fail_2 : decode cX1_fail 2 = .ok (.getfield 497, 3) := dk_180 1 241 (dk_at dksX1_fail_0 2 rfl rfl)
theorem dX1_fail_5 : decode cX1_fail 5 = .ok (.putfield 502, 3) := dk_181 1 246 (dk_at dksX1_fail_0 5 rfl rfl)
theorem dX1_fail_8 : decode cX1_fail 8 = .ok (.aload_n 0, 1) := dk_42 (dk_at dksX1_fail_0 8 rfl rfl)
theorem dX1_fail_9 : decode cX1_fail 9 = .ok (.aload_n 1, 1) := dk_43 (dk_at dksX1_fail_0 9 rfl rfl)
theorem dX1_fail_10 : decode cX1_fail 10 = .ok (.getfield 505, 3) := dk_180 1 249 (dk_at dksX1_fail_0 10 rfl rfl)
theorem dX1_fail_13 : decode cX1_fail 13 = .ok (.putfield 70, 3) := dk_181 0 70 (dk_at dksX1_fail_0 13 rfl rfl)
theorem dX1_fail_16 : decode cX1_fail 16 = .ok (.bipush (-4), 2) := dk_16 252 (dk_at dksX1_fail_0 16 rfl rfl)
theorem dX1_fail_18 : decode cX1_fail 18 = .ok (.ireturn, 1) := dk_172 (dk_at dksX1_fail_0 18 rfl rfl)
abbrev cX1_load : ByteArray := prog_1_method_87_code
def yX1_load : MethodName := ⟨RX1, "load", "()I"⟩
def dkwX1_load_3 : List UInt8 := [180, 2, 26, 172]
abbrev dktX1_load_3 : List UInt8 := dkwX1_load_3 ++ []
def dkwX1_load_2 : List UInt8 := [28, 5, 162, 0, 16, 42, 180, 0, 43, 28, 1, 83, 132, 2, 1, 167, 255, 241, 42, 180, 0, 30]
abbrev dktX1_load_2 : List UInt8 := dkwX1_load_2 ++ dktX1_load_3
def dkwX1_load_1 : List UInt8 := [180, 0, 54, 182, 2, 10, 42, 43, 180, 2, 20, 181, 0, 30, 42, 43, 180, 2, 23, 181, 0, 39, 3, 61]
abbrev dktX1_load_1 : List UInt8 := dkwX1_load_1 ++ dktX1_load_2
def dkwX1_load_0 : List UInt8 := [187, 1, 255, 89, 42, 183, 2, 1, 76, 43, 182, 2, 17, 167, 0, 10, 77, 42, 44, 182, 2, 6, 172, 42]
abbrev dktX1_load_0 : List UInt8 := dkwX1_load_0 ++ dktX1_load_1
theorem dksX1_load_0 : cX1_load.data.toList.drop 0 = dktX1_load_0 := by decide +kernel
theorem dksX1_load_1 : cX1_load.data.toList.drop 24 = dktX1_load_1 := dk_seg dksX1_load_0 24 rfl rfl
theorem dksX1_load_2 : cX1_load.data.toList.drop 48 = dktX1_load_2 := dk_seg dksX1_load_1 24 rfl rfl
theorem dksX1_load_3 : cX1_load.data.toList.drop 70 = dktX1_load_3 := dk_seg dksX1_load_2 22 rfl rfl
theorem dX1_load_0 : decode cX1_load 0 = .ok (.new 511, 3) := dk_187 1 255 (dk_at dksX1_load_0 0 rfl rfl)
theorem dX1_load_3 : decode cX1_load 3 = .ok (.dup, 1) := dk_89 (dk_at dksX1_load_0 3 rfl rfl)
theorem dX1_load_4 : decode cX1_load 4 = .ok (.aload_n 0, 1) := dk_42 (dk_at dksX1_load_0 4 rfl rfl)
theorem dX1_load_5 : decode cX1_load 5 = .ok (.invokespecial 513, 3) := dk_183 2 1 (dk_at dksX1_load_0 5 rfl rfl)
theorem dX1_load_8 : decode cX1_load 8 = .ok (.astore_n 1, 1) := dk_76 (dk_at dksX1_load_0 8 rfl rfl)
theorem dX1_load_9 : decode cX1_load 9 = .ok (.aload_n 1, 1) := dk_43 (dk_at dksX1_load_0 9 rfl rfl)
theorem dX1_load_10 : decode cX1_load 10 = .ok (.invokevirtual 529, 3) := dk_182 2 17 (dk_at dksX1_load_0 10 rfl rfl)
theorem dX1_load_13 : decode cX1_load 13 = .ok (.goto 10, 3) := dk_167 0 10 (dk_at dksX1_load_0 13 rfl rfl)
theorem dX1_load_16 : decode cX1_load 16 = .ok (.astore_n 2, 1) := dk_77 (dk_at dksX1_load_0 16 rfl rfl)
theorem dX1_load_17 : decode cX1_load 17 = .ok (.aload_n 0, 1) := dk_42 (dk_at dksX1_load_0 17 rfl rfl)
theorem dX1_load_18 : decode cX1_load 18 = .ok (.aload_n 2, 1) := dk_44 (dk_at dksX1_load_0 18 rfl rfl)
theorem dX1_load_19 : decode cX1_load 19 = .ok (.invokevirtual 518, 3) := dk_182 2 6 (dk_at dksX1_load_0 19 rfl rfl)
theorem dX1_load_22 : decode cX1_load 22 = .ok (.ireturn, 1) := dk_172 (dk_at dksX1_load_0 22 rfl rfl)
theorem dX1_load_23 : decode cX1_load 23 = .ok (.aload_n 0, 1) := dk_42 (dk_at dksX1_load_0 23 rfl rfl)
theorem dX1_load_24 : decode cX1_load 24 = .ok (.getfield 54, 3) := dk_180 0 54 (dk_at dksX1_load_1 0 rfl rfl)
theorem dX1_load_27 : decode cX1_load 27 = .ok (.invokevirtual 522, 3) := dk_182 2 10 (dk_at dksX1_load_1 3 rfl rfl)
theorem dX1_load_30 : decode cX1_load 30 = .ok (.aload_n 0, 1) := dk_42 (dk_at dksX1_load_1 6 rfl rfl)
theorem dX1_load_31 : decode cX1_load 31 = .ok (.aload_n 1, 1) := dk_43 (dk_at dksX1_load_1 7 rfl rfl)
theorem dX1_load_32 : decode cX1_load 32 = .ok (.getfield 532, 3) := dk_180 2 20 (dk_at dksX1_load_1 8 rfl rfl)
theorem dX1_load_35 : decode cX1_load 35 = .ok (.putfield 30, 3) := dk_181 0 30 (dk_at dksX1_load_1 11 rfl rfl)
theorem dX1_load_38 : decode cX1_load 38 = .ok (.aload_n 0, 1) := dk_42 (dk_at dksX1_load_1 14 rfl rfl)
theorem dX1_load_39 : decode cX1_load 39 = .ok (.aload_n 1, 1) := dk_43 (dk_at dksX1_load_1 15 rfl rfl)
theorem dX1_load_40 : decode cX1_load 40 = .ok (.getfield 535, 3) := dk_180 2 23 (dk_at dksX1_load_1 16 rfl rfl)
theorem dX1_load_43 : decode cX1_load 43 = .ok (.putfield 39, 3) := dk_181 0 39 (dk_at dksX1_load_1 19 rfl rfl)
theorem dX1_load_46 : decode cX1_load 46 = .ok (.iconst 0, 1) := dk_3 (dk_at dksX1_load_1 22 rfl rfl)
theorem dX1_load_47 : decode cX1_load 47 = .ok (.istore_n 2, 1) := dk_61 (dk_at dksX1_load_1 23 rfl rfl)
theorem dX1_load_48 : decode cX1_load 48 = .ok (.iload_n 2, 1) := dk_28 (dk_at dksX1_load_2 0 rfl rfl)
theorem dX1_load_49 : decode cX1_load 49 = .ok (.iconst 2, 1) := dk_5 (dk_at dksX1_load_2 1 rfl rfl)
theorem dX1_load_50 : decode cX1_load 50 = .ok (.if_icmp .ge 16, 3) := dk_162 0 16 (dk_at dksX1_load_2 2 rfl rfl)
theorem dX1_load_53 : decode cX1_load 53 = .ok (.aload_n 0, 1) := dk_42 (dk_at dksX1_load_2 5 rfl rfl)
theorem dX1_load_54 : decode cX1_load 54 = .ok (.getfield 43, 3) := dk_180 0 43 (dk_at dksX1_load_2 6 rfl rfl)
theorem dX1_load_57 : decode cX1_load 57 = .ok (.iload_n 2, 1) := dk_28 (dk_at dksX1_load_2 9 rfl rfl)
theorem dX1_load_58 : decode cX1_load 58 = .ok (.aconst_null, 1) := dk_1 (dk_at dksX1_load_2 10 rfl rfl)
theorem dX1_load_59 : decode cX1_load 59 = .ok (.aastore, 1) := dk_83 (dk_at dksX1_load_2 11 rfl rfl)
theorem dX1_load_60 : decode cX1_load 60 = .ok (.iinc 2 1, 3) := dk_132 2 1 (dk_at dksX1_load_2 12 rfl rfl)
theorem dX1_load_63 : decode cX1_load 63 = .ok (.goto (-15), 3) := dk_167 255 241 (dk_at dksX1_load_2 15 rfl rfl)
theorem dX1_load_66 : decode cX1_load 66 = .ok (.aload_n 0, 1) := dk_42 (dk_at dksX1_load_2 18 rfl rfl)
theorem dX1_load_67 : decode cX1_load 67 = .ok (.getfield 30, 3) := dk_180 0 30 (dk_at dksX1_load_2 19 rfl rfl)
theorem dX1_load_70 : decode cX1_load 70 = .ok (.getfield 538, 3) := dk_180 2 26 (dk_at dksX1_load_3 0 rfl rfl)
theorem dX1_load_73 : decode cX1_load 73 = .ok (.ireturn, 1) := dk_172 (dk_at dksX1_load_3 3 rfl rfl)
abbrev cX1_column : ByteArray := prog_1_method_5_code
def yX1_column : MethodName := ⟨RX1, "column", "(I)I"⟩
def dkwX1_column_0 : List UInt8 := [26, 16, 30, 112, 172]
abbrev dktX1_column_0 : List UInt8 := dkwX1_column_0 ++ []
theorem dksX1_column_0 : cX1_column.data.toList.drop 0 = dktX1_column_0 := by decide +kernel
theorem dX1_column_0 : decode cX1_column 0 = .ok (.iload_n 0, 1) := dk_26 (dk_at dksX1_column_0 0 rfl rfl)
theorem dX1_column_1 : decode cX1_column 1 = .ok (.bipush 30, 2) := dk_16 30 (dk_at dksX1_column_0 1 rfl rfl)
theorem dX1_column_3 : decode cX1_column 3 = .ok (.irem, 1) := dk_112 (dk_at dksX1_column_0 3 rfl rfl)
theorem dX1_column_4 : decode cX1_column 4 = .ok (.ireturn, 1) := dk_172 (dk_at dksX1_column_0 4 rfl rfl)
abbrev cX1_row : ByteArray := prog_1_method_6_code
def yX1_row : MethodName := ⟨RX1, "row", "(I)I"⟩
def dkwX1_row_0 : List UInt8 := [26, 16, 30, 108, 172]
abbrev dktX1_row_0 : List UInt8 := dkwX1_row_0 ++ []
theorem dksX1_row_0 : cX1_row.data.toList.drop 0 = dktX1_row_0 := by decide +kernel
theorem dX1_row_0 : decode cX1_row 0 = .ok (.iload_n 0, 1) := dk_26 (dk_at dksX1_row_0 0 rfl rfl)
theorem dX1_row_1 : decode cX1_row 1 = .ok (.bipush 30, 2) := dk_16 30 (dk_at dksX1_row_0 1 rfl rfl)
theorem dX1_row_3 : decode cX1_row 3 = .ok (.idiv, 1) := dk_108 (dk_at dksX1_row_0 3 rfl rfl)
theorem dX1_row_4 : decode cX1_row 4 = .ok (.ireturn, 1) := dk_172 (dk_at dksX1_row_0 4 rfl rfl)
abbrev cX1_cell : ByteArray := prog_1_method_4_code
def yX1_cell : MethodName := ⟨RX1, "cell", "(II)I"⟩
def dkwX1_cell_0 : List UInt8 := [16, 30, 27, 104, 26, 96, 172]
abbrev dktX1_cell_0 : List UInt8 := dkwX1_cell_0 ++ []
theorem dksX1_cell_0 : cX1_cell.data.toList.drop 0 = dktX1_cell_0 := by decide +kernel
theorem dX1_cell_0 : decode cX1_cell 0 = .ok (.bipush 30, 2) := dk_16 30 (dk_at dksX1_cell_0 0 rfl rfl)
theorem dX1_cell_2 : decode cX1_cell 2 = .ok (.iload_n 1, 1) := dk_27 (dk_at dksX1_cell_0 2 rfl rfl)
theorem dX1_cell_3 : decode cX1_cell 3 = .ok (.imul, 1) := dk_104 (dk_at dksX1_cell_0 3 rfl rfl)
theorem dX1_cell_4 : decode cX1_cell 4 = .ok (.iload_n 0, 1) := dk_26 (dk_at dksX1_cell_0 4 rfl rfl)
theorem dX1_cell_5 : decode cX1_cell 5 = .ok (.iadd, 1) := dk_96 (dk_at dksX1_cell_0 5 rfl rfl)
theorem dX1_cell_6 : decode cX1_cell 6 = .ok (.ireturn, 1) := dk_172 (dk_at dksX1_cell_0 6 rfl rfl)
abbrev cX1_errorCode : ByteArray := prog_1_method_88_code
def yX1_errorCode : MethodName := ⟨RX1, "errorCode", "()I"⟩
theorem dX1_errorCode_0 : decode cX1_errorCode 0 = .ok (.aload_n 0, 1) := by decide +kernel
theorem dX1_errorCode_1 : decode cX1_errorCode 1 = .ok (.getfield 502, 3) := by decide +kernel
theorem dX1_errorCode_4 : decode cX1_errorCode 4 = .ok (.ireturn, 1) := by decide +kernel
abbrev cX1_errorPosition : ByteArray := prog_1_method_89_code
def yX1_errorPosition : MethodName := ⟨RX1, "errorPosition", "()I"⟩
theorem dX1_errorPosition_0 : decode cX1_errorPosition 0 = .ok (.aload_n 0, 1) := by decide +kernel
theorem dX1_errorPosition_1 : decode cX1_errorPosition 1 = .ok (.getfield 70, 3) := by decide +kernel
theorem dX1_errorPosition_4 : decode cX1_errorPosition 4 = .ok (.ireturn, 1) := by decide +kernel
abbrev cX1_runJournal : ByteArray := prog_1_method_74_code
def yX1_runJournal : MethodName := ⟨RX1, "runJournal", "(I)I"⟩
def dkwX1_runJournal_2 : List UInt8 := [192, 1, 123, 182, 1, 179, 153, 0, 7, 4, 167, 0, 4, 3, 96, 61, 132, 3, 1, 167, 255, 213, 28, 172]
abbrev dktX1_runJournal_2 : List UInt8 := dkwX1_runJournal_2 ++ []
def dkwX1_runJournal_1 : List UInt8 := [162, 0, 44, 42, 180, 0, 54, 182, 1, 172, 154, 0, 34, 28, 42, 42, 180, 0, 54, 182, 1, 175]
abbrev dktX1_runJournal_1 : List UInt8 := dkwX1_runJournal_1 ++ dktX1_runJournal_2
def dkwX1_runJournal_0 : List UInt8 := [4, 188, 4, 89, 3, 27, 133, 10, 20, 1, 170, 184, 0, 84, 84, 184, 0, 168, 3, 61, 3, 62, 29, 27]
abbrev dktX1_runJournal_0 : List UInt8 := dkwX1_runJournal_0 ++ dktX1_runJournal_1
theorem dksX1_runJournal_0 : cX1_runJournal.data.toList.drop 0 = dktX1_runJournal_0 := by decide +kernel
theorem dksX1_runJournal_1 : cX1_runJournal.data.toList.drop 24 = dktX1_runJournal_1 := dk_seg dksX1_runJournal_0 24 rfl rfl
theorem dksX1_runJournal_2 : cX1_runJournal.data.toList.drop 46 = dktX1_runJournal_2 := dk_seg dksX1_runJournal_1 22 rfl rfl
theorem dX1_runJournal_0 : decode cX1_runJournal 0 = .ok (.iconst 1, 1) := dk_4 (dk_at dksX1_runJournal_0 0 rfl rfl)
theorem dX1_runJournal_1 : decode cX1_runJournal 1 = .ok (.newarray .boolean, 2) := dk_188_4 (dk_at dksX1_runJournal_0 1 rfl rfl)
theorem dX1_runJournal_3 : decode cX1_runJournal 3 = .ok (.dup, 1) := dk_89 (dk_at dksX1_runJournal_0 3 rfl rfl)
theorem dX1_runJournal_4 : decode cX1_runJournal 4 = .ok (.iconst 0, 1) := dk_3 (dk_at dksX1_runJournal_0 4 rfl rfl)
theorem dX1_runJournal_5 : decode cX1_runJournal 5 = .ok (.iload_n 1, 1) := dk_27 (dk_at dksX1_runJournal_0 5 rfl rfl)
theorem dX1_runJournal_6 : decode cX1_runJournal 6 = .ok (.i2l, 1) := dk_133 (dk_at dksX1_runJournal_0 6 rfl rfl)
theorem dX1_runJournal_7 : decode cX1_runJournal 7 = .ok (.lconst 1, 1) := dk_10 (dk_at dksX1_runJournal_0 7 rfl rfl)
theorem dX1_runJournal_8 : decode cX1_runJournal 8 = .ok (.ldc2_w 426, 3) := dk_20 1 170 (dk_at dksX1_runJournal_0 8 rfl rfl)
theorem dX1_runJournal_11 : decode cX1_runJournal 11 = .ok (.invokestatic 84, 3) := dk_184 0 84 (dk_at dksX1_runJournal_0 11 rfl rfl)
theorem dX1_runJournal_14 : decode cX1_runJournal 14 = .ok (.bastore, 1) := dk_84 (dk_at dksX1_runJournal_0 14 rfl rfl)
theorem dX1_runJournal_15 : decode cX1_runJournal 15 = .ok (.invokestatic 168, 3) := dk_184 0 168 (dk_at dksX1_runJournal_0 15 rfl rfl)
theorem dX1_runJournal_18 : decode cX1_runJournal 18 = .ok (.iconst 0, 1) := dk_3 (dk_at dksX1_runJournal_0 18 rfl rfl)
theorem dX1_runJournal_19 : decode cX1_runJournal 19 = .ok (.istore_n 2, 1) := dk_61 (dk_at dksX1_runJournal_0 19 rfl rfl)
theorem dX1_runJournal_20 : decode cX1_runJournal 20 = .ok (.iconst 0, 1) := dk_3 (dk_at dksX1_runJournal_0 20 rfl rfl)
theorem dX1_runJournal_21 : decode cX1_runJournal 21 = .ok (.istore_n 3, 1) := dk_62 (dk_at dksX1_runJournal_0 21 rfl rfl)
theorem dX1_runJournal_22 : decode cX1_runJournal 22 = .ok (.iload_n 3, 1) := dk_29 (dk_at dksX1_runJournal_0 22 rfl rfl)
theorem dX1_runJournal_23 : decode cX1_runJournal 23 = .ok (.iload_n 1, 1) := dk_27 (dk_at dksX1_runJournal_0 23 rfl rfl)
theorem dX1_runJournal_24 : decode cX1_runJournal 24 = .ok (.if_icmp .ge 44, 3) := dk_162 0 44 (dk_at dksX1_runJournal_1 0 rfl rfl)
theorem dX1_runJournal_27 : decode cX1_runJournal 27 = .ok (.aload_n 0, 1) := dk_42 (dk_at dksX1_runJournal_1 3 rfl rfl)
theorem dX1_runJournal_28 : decode cX1_runJournal 28 = .ok (.getfield 54, 3) := dk_180 0 54 (dk_at dksX1_runJournal_1 4 rfl rfl)
theorem dX1_runJournal_31 : decode cX1_runJournal 31 = .ok (.invokevirtual 428, 3) := dk_182 1 172 (dk_at dksX1_runJournal_1 7 rfl rfl)
theorem dX1_runJournal_34 : decode cX1_runJournal 34 = .ok (.ifCond .ne 34, 3) := dk_154 0 34 (dk_at dksX1_runJournal_1 10 rfl rfl)
theorem dX1_runJournal_37 : decode cX1_runJournal 37 = .ok (.iload_n 2, 1) := dk_28 (dk_at dksX1_runJournal_1 13 rfl rfl)
theorem dX1_runJournal_38 : decode cX1_runJournal 38 = .ok (.aload_n 0, 1) := dk_42 (dk_at dksX1_runJournal_1 14 rfl rfl)
theorem dX1_runJournal_39 : decode cX1_runJournal 39 = .ok (.aload_n 0, 1) := dk_42 (dk_at dksX1_runJournal_1 15 rfl rfl)
theorem dX1_runJournal_40 : decode cX1_runJournal 40 = .ok (.getfield 54, 3) := dk_180 0 54 (dk_at dksX1_runJournal_1 16 rfl rfl)
theorem dX1_runJournal_43 : decode cX1_runJournal 43 = .ok (.invokevirtual 431, 3) := dk_182 1 175 (dk_at dksX1_runJournal_1 19 rfl rfl)
theorem dX1_runJournal_46 : decode cX1_runJournal 46 = .ok (.checkcast 379, 3) := dk_192 1 123 (dk_at dksX1_runJournal_2 0 rfl rfl)
theorem dX1_runJournal_49 : decode cX1_runJournal 49 = .ok (.invokevirtual 435, 3) := dk_182 1 179 (dk_at dksX1_runJournal_2 3 rfl rfl)
theorem dX1_runJournal_52 : decode cX1_runJournal 52 = .ok (.ifCond .eq 7, 3) := dk_153 0 7 (dk_at dksX1_runJournal_2 6 rfl rfl)
theorem dX1_runJournal_55 : decode cX1_runJournal 55 = .ok (.iconst 1, 1) := dk_4 (dk_at dksX1_runJournal_2 9 rfl rfl)
theorem dX1_runJournal_56 : decode cX1_runJournal 56 = .ok (.goto 4, 3) := dk_167 0 4 (dk_at dksX1_runJournal_2 10 rfl rfl)
theorem dX1_runJournal_59 : decode cX1_runJournal 59 = .ok (.iconst 0, 1) := dk_3 (dk_at dksX1_runJournal_2 13 rfl rfl)
theorem dX1_runJournal_60 : decode cX1_runJournal 60 = .ok (.iadd, 1) := dk_96 (dk_at dksX1_runJournal_2 14 rfl rfl)
theorem dX1_runJournal_61 : decode cX1_runJournal 61 = .ok (.istore_n 2, 1) := dk_61 (dk_at dksX1_runJournal_2 15 rfl rfl)
theorem dX1_runJournal_62 : decode cX1_runJournal 62 = .ok (.iinc 3 1, 3) := dk_132 3 1 (dk_at dksX1_runJournal_2 16 rfl rfl)
theorem dX1_runJournal_65 : decode cX1_runJournal 65 = .ok (.goto (-43), 3) := dk_167 255 213 (dk_at dksX1_runJournal_2 19 rfl rfl)
theorem dX1_runJournal_68 : decode cX1_runJournal 68 = .ok (.iload_n 2, 1) := dk_28 (dk_at dksX1_runJournal_2 22 rfl rfl)
theorem dX1_runJournal_69 : decode cX1_runJournal 69 = .ok (.ireturn, 1) := dk_172 (dk_at dksX1_runJournal_2 23 rfl rfl)
abbrev cX1_requireArguments : ByteArray := prog_1_method_3_code
def yX1_requireArguments : MethodName := ⟨RX1, "requireArguments", "([Z)V"⟩
def dkwX1_requireArguments_1 : List UInt8 := [187, 0, 9, 89, 183, 0, 11, 191, 132, 3, 1, 167, 255, 230, 177]
abbrev dktX1_requireArguments_1 : List UInt8 := dkwX1_requireArguments_1 ++ []
def dkwX1_requireArguments_0 : List UInt8 := [42, 76, 43, 190, 61, 3, 62, 29, 28, 162, 0, 27, 43, 29, 51, 54, 4, 21, 4, 154, 0, 11]
abbrev dktX1_requireArguments_0 : List UInt8 := dkwX1_requireArguments_0 ++ dktX1_requireArguments_1
theorem dksX1_requireArguments_0 : cX1_requireArguments.data.toList.drop 0 = dktX1_requireArguments_0 := by decide +kernel
theorem dksX1_requireArguments_1 : cX1_requireArguments.data.toList.drop 22 = dktX1_requireArguments_1 := dk_seg dksX1_requireArguments_0 22 rfl rfl
theorem dX1_requireArguments_0 : decode cX1_requireArguments 0 = .ok (.aload_n 0, 1) := dk_42 (dk_at dksX1_requireArguments_0 0 rfl rfl)
theorem dX1_requireArguments_1 : decode cX1_requireArguments 1 = .ok (.astore_n 1, 1) := dk_76 (dk_at dksX1_requireArguments_0 1 rfl rfl)
theorem dX1_requireArguments_2 : decode cX1_requireArguments 2 = .ok (.aload_n 1, 1) := dk_43 (dk_at dksX1_requireArguments_0 2 rfl rfl)
theorem dX1_requireArguments_3 : decode cX1_requireArguments 3 = .ok (.arraylength, 1) := dk_190 (dk_at dksX1_requireArguments_0 3 rfl rfl)
theorem dX1_requireArguments_4 : decode cX1_requireArguments 4 = .ok (.istore_n 2, 1) := dk_61 (dk_at dksX1_requireArguments_0 4 rfl rfl)
theorem dX1_requireArguments_5 : decode cX1_requireArguments 5 = .ok (.iconst 0, 1) := dk_3 (dk_at dksX1_requireArguments_0 5 rfl rfl)
theorem dX1_requireArguments_6 : decode cX1_requireArguments 6 = .ok (.istore_n 3, 1) := dk_62 (dk_at dksX1_requireArguments_0 6 rfl rfl)
theorem dX1_requireArguments_7 : decode cX1_requireArguments 7 = .ok (.iload_n 3, 1) := dk_29 (dk_at dksX1_requireArguments_0 7 rfl rfl)
theorem dX1_requireArguments_8 : decode cX1_requireArguments 8 = .ok (.iload_n 2, 1) := dk_28 (dk_at dksX1_requireArguments_0 8 rfl rfl)
theorem dX1_requireArguments_9 : decode cX1_requireArguments 9 = .ok (.if_icmp .ge 27, 3) := dk_162 0 27 (dk_at dksX1_requireArguments_0 9 rfl rfl)
theorem dX1_requireArguments_12 : decode cX1_requireArguments 12 = .ok (.aload_n 1, 1) := dk_43 (dk_at dksX1_requireArguments_0 12 rfl rfl)
theorem dX1_requireArguments_13 : decode cX1_requireArguments 13 = .ok (.iload_n 3, 1) := dk_29 (dk_at dksX1_requireArguments_0 13 rfl rfl)
theorem dX1_requireArguments_14 : decode cX1_requireArguments 14 = .ok (.baload, 1) := dk_51 (dk_at dksX1_requireArguments_0 14 rfl rfl)
theorem dX1_requireArguments_15 : decode cX1_requireArguments 15 = .ok (.istore 4, 2) := dk_54 4 (dk_at dksX1_requireArguments_0 15 rfl rfl)
theorem dX1_requireArguments_17 : decode cX1_requireArguments 17 = .ok (.iload 4, 2) := dk_21 4 (dk_at dksX1_requireArguments_0 17 rfl rfl)
theorem dX1_requireArguments_19 : decode cX1_requireArguments 19 = .ok (.ifCond .ne 11, 3) := dk_154 0 11 (dk_at dksX1_requireArguments_0 19 rfl rfl)
theorem dX1_requireArguments_22 : decode cX1_requireArguments 22 = .ok (.new 9, 3) := dk_187 0 9 (dk_at dksX1_requireArguments_1 0 rfl rfl)
theorem dX1_requireArguments_25 : decode cX1_requireArguments 25 = .ok (.dup, 1) := dk_89 (dk_at dksX1_requireArguments_1 3 rfl rfl)
theorem dX1_requireArguments_26 : decode cX1_requireArguments 26 = .ok (.invokespecial 11, 3) := dk_183 0 11 (dk_at dksX1_requireArguments_1 4 rfl rfl)
theorem dX1_requireArguments_29 : decode cX1_requireArguments 29 = .ok (.athrow, 1) := dk_191 (dk_at dksX1_requireArguments_1 7 rfl rfl)
theorem dX1_requireArguments_30 : decode cX1_requireArguments 30 = .ok (.iinc 3 1, 3) := dk_132 3 1 (dk_at dksX1_requireArguments_1 8 rfl rfl)
theorem dX1_requireArguments_33 : decode cX1_requireArguments 33 = .ok (.goto (-26), 3) := dk_167 255 230 (dk_at dksX1_requireArguments_1 11 rfl rfl)
theorem dX1_requireArguments_36 : decode cX1_requireArguments 36 = .ok (.return_, 1) := dk_177 (dk_at dksX1_requireArguments_1 14 rfl rfl)
abbrev cX1_succeeds : ByteArray := prog_1_method_73_code
def yX1_succeeds : MethodName := ⟨RX1, "succeeds", "(LFranchiseLedger$Posting;)Z"⟩
def dkwX1_succeeds_0 : List UInt8 := [42, 43, 182, 1, 166, 172, 77, 3, 172]
abbrev dktX1_succeeds_0 : List UInt8 := dkwX1_succeeds_0 ++ []
theorem dksX1_succeeds_0 : cX1_succeeds.data.toList.drop 0 = dktX1_succeeds_0 := by decide +kernel
theorem dX1_succeeds_0 : decode cX1_succeeds 0 = .ok (.aload_n 0, 1) := dk_42 (dk_at dksX1_succeeds_0 0 rfl rfl)
theorem dX1_succeeds_1 : decode cX1_succeeds 1 = .ok (.aload_n 1, 1) := dk_43 (dk_at dksX1_succeeds_0 1 rfl rfl)
theorem dX1_succeeds_2 : decode cX1_succeeds 2 = .ok (.invokevirtual 422, 3) := dk_182 1 166 (dk_at dksX1_succeeds_0 2 rfl rfl)
theorem dX1_succeeds_5 : decode cX1_succeeds 5 = .ok (.ireturn, 1) := dk_172 (dk_at dksX1_succeeds_0 5 rfl rfl)
theorem dX1_succeeds_6 : decode cX1_succeeds 6 = .ok (.astore_n 2, 1) := dk_77 (dk_at dksX1_succeeds_0 6 rfl rfl)
theorem dX1_succeeds_7 : decode cX1_succeeds 7 = .ok (.iconst 0, 1) := dk_3 (dk_at dksX1_succeeds_0 7 rfl rfl)
theorem dX1_succeeds_8 : decode cX1_succeeds 8 = .ok (.ireturn, 1) := dk_172 (dk_at dksX1_succeeds_0 8 rfl rfl)
abbrev cX1_isPosted : ByteArray := prog_1_method_72_code
def yX1_isPosted : MethodName := ⟨RX1, "isPosted", "(LFranchiseLedger$Posting;)Z"⟩
def dkwX1_isPosted_8 : List UInt8 := [167, 0, 19, 3, 167, 0, 15, 42, 182, 1, 163, 158, 0, 7, 4, 167, 0, 4, 3, 172]
abbrev dktX1_isPosted_8 : List UInt8 := dkwX1_isPosted_8 ++ []
def dkwX1_isPosted_7 : List UInt8 := [182, 1, 137, 43, 182, 1, 140, 4, 160, 0, 7, 4, 167, 0, 4, 3, 182, 1, 161, 155, 0, 7, 4]
abbrev dktX1_isPosted_7 : List UInt8 := dkwX1_isPosted_7 ++ dktX1_isPosted_8
def dkwX1_isPosted_6 : List UInt8 := [182, 1, 154, 167, 0, 62, 42, 43, 182, 1, 130, 182, 1, 158, 167, 0, 51, 42, 43, 182, 1, 127, 43]
abbrev dktX1_isPosted_6 : List UInt8 := dkwX1_isPosted_6 ++ dktX1_isPosted_7
def dkwX1_isPosted_5 : List UInt8 := [20, 1, 152, 148, 157, 0, 7, 4, 167, 0, 81, 3, 167, 0, 77, 42, 43, 182, 1, 127, 43, 182, 1, 130]
abbrev dktX1_isPosted_5 : List UInt8 := dkwX1_isPosted_5 ++ dktX1_isPosted_6
def dkwX1_isPosted_4 : List UInt8 := [148, 155, 0, 7, 4, 167, 0, 108, 3, 167, 0, 104, 42, 43, 182, 1, 127, 43, 182, 1, 130, 182, 1, 147]
abbrev dktX1_isPosted_4 : List UInt8 := dkwX1_isPosted_4 ++ dktX1_isPosted_5
def dkwX1_isPosted_3 : List UInt8 := [167, 0, 137, 42, 43, 182, 1, 127, 43, 182, 1, 137, 43, 182, 1, 140, 43, 182, 1, 130, 182, 1, 143, 9]
abbrev dktX1_isPosted_3 : List UInt8 := dkwX1_isPosted_3 ++ dktX1_isPosted_4
def dkwX1_isPosted_2 : List UInt8 := [42, 43, 182, 1, 127, 43, 182, 1, 130, 182, 1, 133, 9, 148, 155, 0, 7, 4, 167, 0, 141, 3]
abbrev dktX1_isPosted_2 : List UInt8 := dkwX1_isPosted_2 ++ dktX1_isPosted_3
def dkwX1_isPosted_1 : List UInt8 := [170, 0, 0, 0, 0, 0, 0, 187, 0, 0, 0, 0, 0, 0, 0, 5, 0, 0, 0, 40, 0, 0, 0, 65, 0, 0, 0, 98, 0, 0, 0, 125, 0, 0, 0, 140, 0, 0, 0, 151]
abbrev dktX1_isPosted_1 : List UInt8 := dkwX1_isPosted_1 ++ dktX1_isPosted_2
def dkwX1_isPosted_0 : List UInt8 := [43, 182, 1, 122]
abbrev dktX1_isPosted_0 : List UInt8 := dkwX1_isPosted_0 ++ dktX1_isPosted_1
theorem dksX1_isPosted_0 : cX1_isPosted.data.toList.drop 0 = dktX1_isPosted_0 := by decide +kernel
theorem dksX1_isPosted_1 : cX1_isPosted.data.toList.drop 4 = dktX1_isPosted_1 := dk_seg dksX1_isPosted_0 4 rfl rfl
theorem dksX1_isPosted_2 : cX1_isPosted.data.toList.drop 44 = dktX1_isPosted_2 := dk_seg dksX1_isPosted_1 40 rfl rfl
theorem dksX1_isPosted_3 : cX1_isPosted.data.toList.drop 66 = dktX1_isPosted_3 := dk_seg dksX1_isPosted_2 22 rfl rfl
theorem dksX1_isPosted_4 : cX1_isPosted.data.toList.drop 90 = dktX1_isPosted_4 := dk_seg dksX1_isPosted_3 24 rfl rfl
theorem dksX1_isPosted_5 : cX1_isPosted.data.toList.drop 114 = dktX1_isPosted_5 := dk_seg dksX1_isPosted_4 24 rfl rfl
theorem dksX1_isPosted_6 : cX1_isPosted.data.toList.drop 138 = dktX1_isPosted_6 := dk_seg dksX1_isPosted_5 24 rfl rfl
theorem dksX1_isPosted_7 : cX1_isPosted.data.toList.drop 161 = dktX1_isPosted_7 := dk_seg dksX1_isPosted_6 23 rfl rfl
theorem dksX1_isPosted_8 : cX1_isPosted.data.toList.drop 184 = dktX1_isPosted_8 := dk_seg dksX1_isPosted_7 23 rfl rfl
theorem dX1_isPosted_0 : decode cX1_isPosted 0 = .ok (.aload_n 1, 1) := dk_43 (dk_at dksX1_isPosted_0 0 rfl rfl)
theorem dX1_isPosted_1 : decode cX1_isPosted 1 = .ok (.invokevirtual 378, 3) := dk_182 1 122 (dk_at dksX1_isPosted_0 1 rfl rfl)
theorem dX1_isPosted_4 : decode cX1_isPosted 4 = .ok (.tableswitch 187 0 5 #[40, 65, 98, 125, 140, 151], 40) := by decide +kernel
theorem dX1_isPosted_44 : decode cX1_isPosted 44 = .ok (.aload_n 0, 1) := dk_42 (dk_at dksX1_isPosted_2 0 rfl rfl)
theorem dX1_isPosted_45 : decode cX1_isPosted 45 = .ok (.aload_n 1, 1) := dk_43 (dk_at dksX1_isPosted_2 1 rfl rfl)
theorem dX1_isPosted_46 : decode cX1_isPosted 46 = .ok (.invokevirtual 383, 3) := dk_182 1 127 (dk_at dksX1_isPosted_2 2 rfl rfl)
theorem dX1_isPosted_49 : decode cX1_isPosted 49 = .ok (.aload_n 1, 1) := dk_43 (dk_at dksX1_isPosted_2 5 rfl rfl)
theorem dX1_isPosted_50 : decode cX1_isPosted 50 = .ok (.invokevirtual 386, 3) := dk_182 1 130 (dk_at dksX1_isPosted_2 6 rfl rfl)
theorem dX1_isPosted_53 : decode cX1_isPosted 53 = .ok (.invokevirtual 389, 3) := dk_182 1 133 (dk_at dksX1_isPosted_2 9 rfl rfl)
theorem dX1_isPosted_56 : decode cX1_isPosted 56 = .ok (.lconst 0, 1) := dk_9 (dk_at dksX1_isPosted_2 12 rfl rfl)
theorem dX1_isPosted_57 : decode cX1_isPosted 57 = .ok (.lcmp, 1) := dk_148 (dk_at dksX1_isPosted_2 13 rfl rfl)
theorem dX1_isPosted_58 : decode cX1_isPosted 58 = .ok (.ifCond .lt 7, 3) := dk_155 0 7 (dk_at dksX1_isPosted_2 14 rfl rfl)
theorem dX1_isPosted_61 : decode cX1_isPosted 61 = .ok (.iconst 1, 1) := dk_4 (dk_at dksX1_isPosted_2 17 rfl rfl)
theorem dX1_isPosted_62 : decode cX1_isPosted 62 = .ok (.goto 141, 3) := dk_167 0 141 (dk_at dksX1_isPosted_2 18 rfl rfl)
theorem dX1_isPosted_65 : decode cX1_isPosted 65 = .ok (.iconst 0, 1) := dk_3 (dk_at dksX1_isPosted_2 21 rfl rfl)
theorem dX1_isPosted_66 : decode cX1_isPosted 66 = .ok (.goto 137, 3) := dk_167 0 137 (dk_at dksX1_isPosted_3 0 rfl rfl)
theorem dX1_isPosted_69 : decode cX1_isPosted 69 = .ok (.aload_n 0, 1) := dk_42 (dk_at dksX1_isPosted_3 3 rfl rfl)
theorem dX1_isPosted_70 : decode cX1_isPosted 70 = .ok (.aload_n 1, 1) := dk_43 (dk_at dksX1_isPosted_3 4 rfl rfl)
theorem dX1_isPosted_71 : decode cX1_isPosted 71 = .ok (.invokevirtual 383, 3) := dk_182 1 127 (dk_at dksX1_isPosted_3 5 rfl rfl)
theorem dX1_isPosted_74 : decode cX1_isPosted 74 = .ok (.aload_n 1, 1) := dk_43 (dk_at dksX1_isPosted_3 8 rfl rfl)
theorem dX1_isPosted_75 : decode cX1_isPosted 75 = .ok (.invokevirtual 393, 3) := dk_182 1 137 (dk_at dksX1_isPosted_3 9 rfl rfl)
theorem dX1_isPosted_78 : decode cX1_isPosted 78 = .ok (.aload_n 1, 1) := dk_43 (dk_at dksX1_isPosted_3 12 rfl rfl)
theorem dX1_isPosted_79 : decode cX1_isPosted 79 = .ok (.invokevirtual 396, 3) := dk_182 1 140 (dk_at dksX1_isPosted_3 13 rfl rfl)
theorem dX1_isPosted_82 : decode cX1_isPosted 82 = .ok (.aload_n 1, 1) := dk_43 (dk_at dksX1_isPosted_3 16 rfl rfl)
theorem dX1_isPosted_83 : decode cX1_isPosted 83 = .ok (.invokevirtual 386, 3) := dk_182 1 130 (dk_at dksX1_isPosted_3 17 rfl rfl)
theorem dX1_isPosted_86 : decode cX1_isPosted 86 = .ok (.invokevirtual 399, 3) := dk_182 1 143 (dk_at dksX1_isPosted_3 20 rfl rfl)
theorem dX1_isPosted_89 : decode cX1_isPosted 89 = .ok (.lconst 0, 1) := dk_9 (dk_at dksX1_isPosted_3 23 rfl rfl)
theorem dX1_isPosted_90 : decode cX1_isPosted 90 = .ok (.lcmp, 1) := dk_148 (dk_at dksX1_isPosted_4 0 rfl rfl)
theorem dX1_isPosted_91 : decode cX1_isPosted 91 = .ok (.ifCond .lt 7, 3) := dk_155 0 7 (dk_at dksX1_isPosted_4 1 rfl rfl)
theorem dX1_isPosted_94 : decode cX1_isPosted 94 = .ok (.iconst 1, 1) := dk_4 (dk_at dksX1_isPosted_4 4 rfl rfl)
theorem dX1_isPosted_95 : decode cX1_isPosted 95 = .ok (.goto 108, 3) := dk_167 0 108 (dk_at dksX1_isPosted_4 5 rfl rfl)
theorem dX1_isPosted_98 : decode cX1_isPosted 98 = .ok (.iconst 0, 1) := dk_3 (dk_at dksX1_isPosted_4 8 rfl rfl)
theorem dX1_isPosted_99 : decode cX1_isPosted 99 = .ok (.goto 104, 3) := dk_167 0 104 (dk_at dksX1_isPosted_4 9 rfl rfl)
theorem dX1_isPosted_102 : decode cX1_isPosted 102 = .ok (.aload_n 0, 1) := dk_42 (dk_at dksX1_isPosted_4 12 rfl rfl)
theorem dX1_isPosted_103 : decode cX1_isPosted 103 = .ok (.aload_n 1, 1) := dk_43 (dk_at dksX1_isPosted_4 13 rfl rfl)
theorem dX1_isPosted_104 : decode cX1_isPosted 104 = .ok (.invokevirtual 383, 3) := dk_182 1 127 (dk_at dksX1_isPosted_4 14 rfl rfl)
theorem dX1_isPosted_107 : decode cX1_isPosted 107 = .ok (.aload_n 1, 1) := dk_43 (dk_at dksX1_isPosted_4 17 rfl rfl)
theorem dX1_isPosted_108 : decode cX1_isPosted 108 = .ok (.invokevirtual 386, 3) := dk_182 1 130 (dk_at dksX1_isPosted_4 18 rfl rfl)
theorem dX1_isPosted_111 : decode cX1_isPosted 111 = .ok (.invokevirtual 403, 3) := dk_182 1 147 (dk_at dksX1_isPosted_4 21 rfl rfl)
theorem dX1_isPosted_114 : decode cX1_isPosted 114 = .ok (.ldc2_w 408, 3) := dk_20 1 152 (dk_at dksX1_isPosted_5 0 rfl rfl)
theorem dX1_isPosted_117 : decode cX1_isPosted 117 = .ok (.lcmp, 1) := dk_148 (dk_at dksX1_isPosted_5 3 rfl rfl)
theorem dX1_isPosted_118 : decode cX1_isPosted 118 = .ok (.ifCond .gt 7, 3) := dk_157 0 7 (dk_at dksX1_isPosted_5 4 rfl rfl)
theorem dX1_isPosted_121 : decode cX1_isPosted 121 = .ok (.iconst 1, 1) := dk_4 (dk_at dksX1_isPosted_5 7 rfl rfl)
theorem dX1_isPosted_122 : decode cX1_isPosted 122 = .ok (.goto 81, 3) := dk_167 0 81 (dk_at dksX1_isPosted_5 8 rfl rfl)
theorem dX1_isPosted_125 : decode cX1_isPosted 125 = .ok (.iconst 0, 1) := dk_3 (dk_at dksX1_isPosted_5 11 rfl rfl)
theorem dX1_isPosted_126 : decode cX1_isPosted 126 = .ok (.goto 77, 3) := dk_167 0 77 (dk_at dksX1_isPosted_5 12 rfl rfl)
theorem dX1_isPosted_129 : decode cX1_isPosted 129 = .ok (.aload_n 0, 1) := dk_42 (dk_at dksX1_isPosted_5 15 rfl rfl)
theorem dX1_isPosted_130 : decode cX1_isPosted 130 = .ok (.aload_n 1, 1) := dk_43 (dk_at dksX1_isPosted_5 16 rfl rfl)
theorem dX1_isPosted_131 : decode cX1_isPosted 131 = .ok (.invokevirtual 383, 3) := dk_182 1 127 (dk_at dksX1_isPosted_5 17 rfl rfl)
theorem dX1_isPosted_134 : decode cX1_isPosted 134 = .ok (.aload_n 1, 1) := dk_43 (dk_at dksX1_isPosted_5 20 rfl rfl)
theorem dX1_isPosted_135 : decode cX1_isPosted 135 = .ok (.invokevirtual 386, 3) := dk_182 1 130 (dk_at dksX1_isPosted_5 21 rfl rfl)
theorem dX1_isPosted_138 : decode cX1_isPosted 138 = .ok (.invokevirtual 410, 3) := dk_182 1 154 (dk_at dksX1_isPosted_6 0 rfl rfl)
theorem dX1_isPosted_141 : decode cX1_isPosted 141 = .ok (.goto 62, 3) := dk_167 0 62 (dk_at dksX1_isPosted_6 3 rfl rfl)
theorem dX1_isPosted_144 : decode cX1_isPosted 144 = .ok (.aload_n 0, 1) := dk_42 (dk_at dksX1_isPosted_6 6 rfl rfl)
theorem dX1_isPosted_145 : decode cX1_isPosted 145 = .ok (.aload_n 1, 1) := dk_43 (dk_at dksX1_isPosted_6 7 rfl rfl)
theorem dX1_isPosted_146 : decode cX1_isPosted 146 = .ok (.invokevirtual 386, 3) := dk_182 1 130 (dk_at dksX1_isPosted_6 8 rfl rfl)
theorem dX1_isPosted_149 : decode cX1_isPosted 149 = .ok (.invokevirtual 414, 3) := dk_182 1 158 (dk_at dksX1_isPosted_6 11 rfl rfl)
theorem dX1_isPosted_152 : decode cX1_isPosted 152 = .ok (.goto 51, 3) := dk_167 0 51 (dk_at dksX1_isPosted_6 14 rfl rfl)
theorem dX1_isPosted_155 : decode cX1_isPosted 155 = .ok (.aload_n 0, 1) := dk_42 (dk_at dksX1_isPosted_6 17 rfl rfl)
theorem dX1_isPosted_156 : decode cX1_isPosted 156 = .ok (.aload_n 1, 1) := dk_43 (dk_at dksX1_isPosted_6 18 rfl rfl)
theorem dX1_isPosted_157 : decode cX1_isPosted 157 = .ok (.invokevirtual 383, 3) := dk_182 1 127 (dk_at dksX1_isPosted_6 19 rfl rfl)
theorem dX1_isPosted_160 : decode cX1_isPosted 160 = .ok (.aload_n 1, 1) := dk_43 (dk_at dksX1_isPosted_6 22 rfl rfl)
theorem dX1_isPosted_161 : decode cX1_isPosted 161 = .ok (.invokevirtual 393, 3) := dk_182 1 137 (dk_at dksX1_isPosted_7 0 rfl rfl)
theorem dX1_isPosted_164 : decode cX1_isPosted 164 = .ok (.aload_n 1, 1) := dk_43 (dk_at dksX1_isPosted_7 3 rfl rfl)
theorem dX1_isPosted_165 : decode cX1_isPosted 165 = .ok (.invokevirtual 396, 3) := dk_182 1 140 (dk_at dksX1_isPosted_7 4 rfl rfl)
theorem dX1_isPosted_168 : decode cX1_isPosted 168 = .ok (.iconst 1, 1) := dk_4 (dk_at dksX1_isPosted_7 7 rfl rfl)
theorem dX1_isPosted_169 : decode cX1_isPosted 169 = .ok (.if_icmp .ne 7, 3) := dk_160 0 7 (dk_at dksX1_isPosted_7 8 rfl rfl)
theorem dX1_isPosted_172 : decode cX1_isPosted 172 = .ok (.iconst 1, 1) := dk_4 (dk_at dksX1_isPosted_7 11 rfl rfl)
theorem dX1_isPosted_173 : decode cX1_isPosted 173 = .ok (.goto 4, 3) := dk_167 0 4 (dk_at dksX1_isPosted_7 12 rfl rfl)
theorem dX1_isPosted_176 : decode cX1_isPosted 176 = .ok (.iconst 0, 1) := dk_3 (dk_at dksX1_isPosted_7 15 rfl rfl)
theorem dX1_isPosted_177 : decode cX1_isPosted 177 = .ok (.invokevirtual 417, 3) := dk_182 1 161 (dk_at dksX1_isPosted_7 16 rfl rfl)
theorem dX1_isPosted_180 : decode cX1_isPosted 180 = .ok (.ifCond .lt 7, 3) := dk_155 0 7 (dk_at dksX1_isPosted_7 19 rfl rfl)
theorem dX1_isPosted_183 : decode cX1_isPosted 183 = .ok (.iconst 1, 1) := dk_4 (dk_at dksX1_isPosted_7 22 rfl rfl)
theorem dX1_isPosted_184 : decode cX1_isPosted 184 = .ok (.goto 19, 3) := dk_167 0 19 (dk_at dksX1_isPosted_8 0 rfl rfl)
theorem dX1_isPosted_187 : decode cX1_isPosted 187 = .ok (.iconst 0, 1) := dk_3 (dk_at dksX1_isPosted_8 3 rfl rfl)
theorem dX1_isPosted_188 : decode cX1_isPosted 188 = .ok (.goto 15, 3) := dk_167 0 15 (dk_at dksX1_isPosted_8 4 rfl rfl)
theorem dX1_isPosted_191 : decode cX1_isPosted 191 = .ok (.aload_n 0, 1) := dk_42 (dk_at dksX1_isPosted_8 7 rfl rfl)
theorem dX1_isPosted_192 : decode cX1_isPosted 192 = .ok (.invokevirtual 419, 3) := dk_182 1 163 (dk_at dksX1_isPosted_8 8 rfl rfl)
theorem dX1_isPosted_195 : decode cX1_isPosted 195 = .ok (.ifCond .le 7, 3) := dk_158 0 7 (dk_at dksX1_isPosted_8 11 rfl rfl)
theorem dX1_isPosted_198 : decode cX1_isPosted 198 = .ok (.iconst 1, 1) := dk_4 (dk_at dksX1_isPosted_8 14 rfl rfl)
theorem dX1_isPosted_199 : decode cX1_isPosted 199 = .ok (.goto 4, 3) := dk_167 0 4 (dk_at dksX1_isPosted_8 15 rfl rfl)
theorem dX1_isPosted_202 : decode cX1_isPosted 202 = .ok (.iconst 0, 1) := dk_3 (dk_at dksX1_isPosted_8 18 rfl rfl)
theorem dX1_isPosted_203 : decode cX1_isPosted 203 = .ok (.ireturn, 1) := dk_172 (dk_at dksX1_isPosted_8 19 rfl rfl)
abbrev cX1_reportSales : ByteArray := prog_1_method_48_code
def yX1_reportSales : MethodName := ⟨RX1, "reportSales", "(IJ)J"⟩
def dkwX1_reportSales_2 : List UInt8 := [25, 4, 32, 181, 1, 16, 22, 5, 173]
abbrev dktX1_reportSales_2 : List UInt8 := dkwX1_reportSales_2 ++ []
def dkwX1_reportSales_1 : List UInt8 := [42, 182, 1, 8, 25, 4, 182, 1, 11, 154, 0, 7, 20, 1, 14, 173, 25, 4, 180, 1, 16, 55, 5]
abbrev dktX1_reportSales_1 : List UInt8 := dkwX1_reportSales_1 ++ dktX1_reportSales_2
def dkwX1_reportSales_0 : List UInt8 := [42, 27, 182, 0, 121, 58, 4, 4, 188, 4, 89, 3, 32, 9, 20, 1, 6, 184, 0, 84, 84, 184, 0, 168]
abbrev dktX1_reportSales_0 : List UInt8 := dkwX1_reportSales_0 ++ dktX1_reportSales_1
theorem dksX1_reportSales_0 : cX1_reportSales.data.toList.drop 0 = dktX1_reportSales_0 := by decide +kernel
theorem dksX1_reportSales_1 : cX1_reportSales.data.toList.drop 24 = dktX1_reportSales_1 := dk_seg dksX1_reportSales_0 24 rfl rfl
theorem dksX1_reportSales_2 : cX1_reportSales.data.toList.drop 47 = dktX1_reportSales_2 := dk_seg dksX1_reportSales_1 23 rfl rfl
theorem dX1_reportSales_0 : decode cX1_reportSales 0 = .ok (.aload_n 0, 1) := dk_42 (dk_at dksX1_reportSales_0 0 rfl rfl)
theorem dX1_reportSales_1 : decode cX1_reportSales 1 = .ok (.iload_n 1, 1) := dk_27 (dk_at dksX1_reportSales_0 1 rfl rfl)
theorem dX1_reportSales_2 : decode cX1_reportSales 2 = .ok (.invokevirtual 121, 3) := dk_182 0 121 (dk_at dksX1_reportSales_0 2 rfl rfl)
theorem dX1_reportSales_5 : decode cX1_reportSales 5 = .ok (.astore 4, 2) := dk_58 4 (dk_at dksX1_reportSales_0 5 rfl rfl)
theorem dX1_reportSales_7 : decode cX1_reportSales 7 = .ok (.iconst 1, 1) := dk_4 (dk_at dksX1_reportSales_0 7 rfl rfl)
theorem dX1_reportSales_8 : decode cX1_reportSales 8 = .ok (.newarray .boolean, 2) := dk_188_4 (dk_at dksX1_reportSales_0 8 rfl rfl)
theorem dX1_reportSales_10 : decode cX1_reportSales 10 = .ok (.dup, 1) := dk_89 (dk_at dksX1_reportSales_0 10 rfl rfl)
theorem dX1_reportSales_11 : decode cX1_reportSales 11 = .ok (.iconst 0, 1) := dk_3 (dk_at dksX1_reportSales_0 11 rfl rfl)
theorem dX1_reportSales_12 : decode cX1_reportSales 12 = .ok (.lload_n 2, 1) := dk_32 (dk_at dksX1_reportSales_0 12 rfl rfl)
theorem dX1_reportSales_13 : decode cX1_reportSales 13 = .ok (.lconst 0, 1) := dk_9 (dk_at dksX1_reportSales_0 13 rfl rfl)
theorem dX1_reportSales_14 : decode cX1_reportSales 14 = .ok (.ldc2_w 262, 3) := dk_20 1 6 (dk_at dksX1_reportSales_0 14 rfl rfl)
theorem dX1_reportSales_17 : decode cX1_reportSales 17 = .ok (.invokestatic 84, 3) := dk_184 0 84 (dk_at dksX1_reportSales_0 17 rfl rfl)
theorem dX1_reportSales_20 : decode cX1_reportSales 20 = .ok (.bastore, 1) := dk_84 (dk_at dksX1_reportSales_0 20 rfl rfl)
theorem dX1_reportSales_21 : decode cX1_reportSales 21 = .ok (.invokestatic 168, 3) := dk_184 0 168 (dk_at dksX1_reportSales_0 21 rfl rfl)
theorem dX1_reportSales_24 : decode cX1_reportSales 24 = .ok (.aload_n 0, 1) := dk_42 (dk_at dksX1_reportSales_1 0 rfl rfl)
theorem dX1_reportSales_25 : decode cX1_reportSales 25 = .ok (.invokevirtual 264, 3) := dk_182 1 8 (dk_at dksX1_reportSales_1 1 rfl rfl)
theorem dX1_reportSales_28 : decode cX1_reportSales 28 = .ok (.aload 4, 2) := dk_25 4 (dk_at dksX1_reportSales_1 4 rfl rfl)
theorem dX1_reportSales_30 : decode cX1_reportSales 30 = .ok (.invokevirtual 267, 3) := dk_182 1 11 (dk_at dksX1_reportSales_1 6 rfl rfl)
theorem dX1_reportSales_33 : decode cX1_reportSales 33 = .ok (.ifCond .ne 7, 3) := dk_154 0 7 (dk_at dksX1_reportSales_1 9 rfl rfl)
theorem dX1_reportSales_36 : decode cX1_reportSales 36 = .ok (.ldc2_w 270, 3) := dk_20 1 14 (dk_at dksX1_reportSales_1 12 rfl rfl)
theorem dX1_reportSales_39 : decode cX1_reportSales 39 = .ok (.lreturn, 1) := dk_173 (dk_at dksX1_reportSales_1 15 rfl rfl)
theorem dX1_reportSales_40 : decode cX1_reportSales 40 = .ok (.aload 4, 2) := dk_25 4 (dk_at dksX1_reportSales_1 16 rfl rfl)
theorem dX1_reportSales_42 : decode cX1_reportSales 42 = .ok (.getfield 272, 3) := dk_180 1 16 (dk_at dksX1_reportSales_1 18 rfl rfl)
theorem dX1_reportSales_45 : decode cX1_reportSales 45 = .ok (.lstore 5, 2) := dk_55 5 (dk_at dksX1_reportSales_1 21 rfl rfl)
theorem dX1_reportSales_47 : decode cX1_reportSales 47 = .ok (.aload 4, 2) := dk_25 4 (dk_at dksX1_reportSales_2 0 rfl rfl)
theorem dX1_reportSales_49 : decode cX1_reportSales 49 = .ok (.lload_n 2, 1) := dk_32 (dk_at dksX1_reportSales_2 2 rfl rfl)
theorem dX1_reportSales_50 : decode cX1_reportSales 50 = .ok (.putfield 272, 3) := dk_181 1 16 (dk_at dksX1_reportSales_2 3 rfl rfl)
theorem dX1_reportSales_53 : decode cX1_reportSales 53 = .ok (.lload 5, 2) := dk_22 5 (dk_at dksX1_reportSales_2 6 rfl rfl)
theorem dX1_reportSales_55 : decode cX1_reportSales 55 = .ok (.lreturn, 1) := dk_173 (dk_at dksX1_reportSales_2 8 rfl rfl)
abbrev cX1_outlet : ByteArray := prog_1_method_11_code
def yX1_outlet : MethodName := ⟨RX1, "outlet", "(I)LFranchiseLedger$Outlet;"⟩
def dkwX1_outlet_1 : List UInt8 := [184, 0, 84, 84, 184, 0, 92, 42, 180, 0, 39, 180, 0, 102, 27, 185, 0, 96, 2, 0, 192, 0, 105, 176]
abbrev dktX1_outlet_1 : List UInt8 := dkwX1_outlet_1 ++ []
def dkwX1_outlet_0 : List UInt8 := [4, 188, 4, 89, 3, 27, 133, 9, 42, 180, 0, 39, 180, 0, 102, 185, 0, 78, 1, 0, 4, 100, 133]
abbrev dktX1_outlet_0 : List UInt8 := dkwX1_outlet_0 ++ dktX1_outlet_1
theorem dksX1_outlet_0 : cX1_outlet.data.toList.drop 0 = dktX1_outlet_0 := by decide +kernel
theorem dksX1_outlet_1 : cX1_outlet.data.toList.drop 23 = dktX1_outlet_1 := dk_seg dksX1_outlet_0 23 rfl rfl
theorem dX1_outlet_0 : decode cX1_outlet 0 = .ok (.iconst 1, 1) := dk_4 (dk_at dksX1_outlet_0 0 rfl rfl)
theorem dX1_outlet_1 : decode cX1_outlet 1 = .ok (.newarray .boolean, 2) := dk_188_4 (dk_at dksX1_outlet_0 1 rfl rfl)
theorem dX1_outlet_3 : decode cX1_outlet 3 = .ok (.dup, 1) := dk_89 (dk_at dksX1_outlet_0 3 rfl rfl)
theorem dX1_outlet_4 : decode cX1_outlet 4 = .ok (.iconst 0, 1) := dk_3 (dk_at dksX1_outlet_0 4 rfl rfl)
theorem dX1_outlet_5 : decode cX1_outlet 5 = .ok (.iload_n 1, 1) := dk_27 (dk_at dksX1_outlet_0 5 rfl rfl)
theorem dX1_outlet_6 : decode cX1_outlet 6 = .ok (.i2l, 1) := dk_133 (dk_at dksX1_outlet_0 6 rfl rfl)
theorem dX1_outlet_7 : decode cX1_outlet 7 = .ok (.lconst 0, 1) := dk_9 (dk_at dksX1_outlet_0 7 rfl rfl)
theorem dX1_outlet_8 : decode cX1_outlet 8 = .ok (.aload_n 0, 1) := dk_42 (dk_at dksX1_outlet_0 8 rfl rfl)
theorem dX1_outlet_9 : decode cX1_outlet 9 = .ok (.getfield 39, 3) := dk_180 0 39 (dk_at dksX1_outlet_0 9 rfl rfl)
theorem dX1_outlet_12 : decode cX1_outlet 12 = .ok (.getfield 102, 3) := dk_180 0 102 (dk_at dksX1_outlet_0 12 rfl rfl)
theorem dX1_outlet_15 : decode cX1_outlet 15 = .ok (.invokeinterface 78 1, 5) := by decide +kernel
theorem dX1_outlet_20 : decode cX1_outlet 20 = .ok (.iconst 1, 1) := dk_4 (dk_at dksX1_outlet_0 20 rfl rfl)
theorem dX1_outlet_21 : decode cX1_outlet 21 = .ok (.isub, 1) := dk_100 (dk_at dksX1_outlet_0 21 rfl rfl)
theorem dX1_outlet_22 : decode cX1_outlet 22 = .ok (.i2l, 1) := dk_133 (dk_at dksX1_outlet_0 22 rfl rfl)
theorem dX1_outlet_23 : decode cX1_outlet 23 = .ok (.invokestatic 84, 3) := dk_184 0 84 (dk_at dksX1_outlet_1 0 rfl rfl)
theorem dX1_outlet_26 : decode cX1_outlet 26 = .ok (.bastore, 1) := dk_84 (dk_at dksX1_outlet_1 3 rfl rfl)
theorem dX1_outlet_27 : decode cX1_outlet 27 = .ok (.invokestatic 92, 3) := dk_184 0 92 (dk_at dksX1_outlet_1 4 rfl rfl)
theorem dX1_outlet_30 : decode cX1_outlet 30 = .ok (.aload_n 0, 1) := dk_42 (dk_at dksX1_outlet_1 7 rfl rfl)
theorem dX1_outlet_31 : decode cX1_outlet 31 = .ok (.getfield 39, 3) := dk_180 0 39 (dk_at dksX1_outlet_1 8 rfl rfl)
theorem dX1_outlet_34 : decode cX1_outlet 34 = .ok (.getfield 102, 3) := dk_180 0 102 (dk_at dksX1_outlet_1 11 rfl rfl)
theorem dX1_outlet_37 : decode cX1_outlet 37 = .ok (.iload_n 1, 1) := dk_27 (dk_at dksX1_outlet_1 14 rfl rfl)
theorem dX1_outlet_38 : decode cX1_outlet 38 = .ok (.invokeinterface 96 2, 5) := by decide +kernel
theorem dX1_outlet_43 : decode cX1_outlet 43 = .ok (.checkcast 105, 3) := dk_192 0 105 (dk_at dksX1_outlet_1 20 rfl rfl)
theorem dX1_outlet_46 : decode cX1_outlet 46 = .ok (.areturn, 1) := dk_176 (dk_at dksX1_outlet_1 23 rfl rfl)
abbrev cX1_requireIndex : ByteArray := prog_1_method_2_code
def yX1_requireIndex : MethodName := ⟨RX1, "requireIndex", "([Z)V"⟩
def dkwX1_requireIndex_1 : List UInt8 := [187, 0, 3, 89, 183, 0, 5, 191, 132, 3, 1, 167, 255, 230, 177]
abbrev dktX1_requireIndex_1 : List UInt8 := dkwX1_requireIndex_1 ++ []
def dkwX1_requireIndex_0 : List UInt8 := [42, 76, 43, 190, 61, 3, 62, 29, 28, 162, 0, 27, 43, 29, 51, 54, 4, 21, 4, 154, 0, 11]
abbrev dktX1_requireIndex_0 : List UInt8 := dkwX1_requireIndex_0 ++ dktX1_requireIndex_1
theorem dksX1_requireIndex_0 : cX1_requireIndex.data.toList.drop 0 = dktX1_requireIndex_0 := by decide +kernel
theorem dksX1_requireIndex_1 : cX1_requireIndex.data.toList.drop 22 = dktX1_requireIndex_1 := dk_seg dksX1_requireIndex_0 22 rfl rfl
theorem dX1_requireIndex_0 : decode cX1_requireIndex 0 = .ok (.aload_n 0, 1) := dk_42 (dk_at dksX1_requireIndex_0 0 rfl rfl)
theorem dX1_requireIndex_1 : decode cX1_requireIndex 1 = .ok (.astore_n 1, 1) := dk_76 (dk_at dksX1_requireIndex_0 1 rfl rfl)
theorem dX1_requireIndex_2 : decode cX1_requireIndex 2 = .ok (.aload_n 1, 1) := dk_43 (dk_at dksX1_requireIndex_0 2 rfl rfl)
theorem dX1_requireIndex_3 : decode cX1_requireIndex 3 = .ok (.arraylength, 1) := dk_190 (dk_at dksX1_requireIndex_0 3 rfl rfl)
theorem dX1_requireIndex_4 : decode cX1_requireIndex 4 = .ok (.istore_n 2, 1) := dk_61 (dk_at dksX1_requireIndex_0 4 rfl rfl)
theorem dX1_requireIndex_5 : decode cX1_requireIndex 5 = .ok (.iconst 0, 1) := dk_3 (dk_at dksX1_requireIndex_0 5 rfl rfl)
theorem dX1_requireIndex_6 : decode cX1_requireIndex 6 = .ok (.istore_n 3, 1) := dk_62 (dk_at dksX1_requireIndex_0 6 rfl rfl)
theorem dX1_requireIndex_7 : decode cX1_requireIndex 7 = .ok (.iload_n 3, 1) := dk_29 (dk_at dksX1_requireIndex_0 7 rfl rfl)
theorem dX1_requireIndex_8 : decode cX1_requireIndex 8 = .ok (.iload_n 2, 1) := dk_28 (dk_at dksX1_requireIndex_0 8 rfl rfl)
theorem dX1_requireIndex_9 : decode cX1_requireIndex 9 = .ok (.if_icmp .ge 27, 3) := dk_162 0 27 (dk_at dksX1_requireIndex_0 9 rfl rfl)
theorem dX1_requireIndex_12 : decode cX1_requireIndex 12 = .ok (.aload_n 1, 1) := dk_43 (dk_at dksX1_requireIndex_0 12 rfl rfl)
theorem dX1_requireIndex_13 : decode cX1_requireIndex 13 = .ok (.iload_n 3, 1) := dk_29 (dk_at dksX1_requireIndex_0 13 rfl rfl)
theorem dX1_requireIndex_14 : decode cX1_requireIndex 14 = .ok (.baload, 1) := dk_51 (dk_at dksX1_requireIndex_0 14 rfl rfl)
theorem dX1_requireIndex_15 : decode cX1_requireIndex 15 = .ok (.istore 4, 2) := dk_54 4 (dk_at dksX1_requireIndex_0 15 rfl rfl)
theorem dX1_requireIndex_17 : decode cX1_requireIndex 17 = .ok (.iload 4, 2) := dk_21 4 (dk_at dksX1_requireIndex_0 17 rfl rfl)
theorem dX1_requireIndex_19 : decode cX1_requireIndex 19 = .ok (.ifCond .ne 11, 3) := dk_154 0 11 (dk_at dksX1_requireIndex_0 19 rfl rfl)
theorem dX1_requireIndex_22 : decode cX1_requireIndex 22 = .ok (.new 3, 3) := dk_187 0 3 (dk_at dksX1_requireIndex_1 0 rfl rfl)
theorem dX1_requireIndex_25 : decode cX1_requireIndex 25 = .ok (.dup, 1) := dk_89 (dk_at dksX1_requireIndex_1 3 rfl rfl)
theorem dX1_requireIndex_26 : decode cX1_requireIndex 26 = .ok (.invokespecial 5, 3) := dk_183 0 5 (dk_at dksX1_requireIndex_1 4 rfl rfl)
theorem dX1_requireIndex_29 : decode cX1_requireIndex 29 = .ok (.athrow, 1) := dk_191 (dk_at dksX1_requireIndex_1 7 rfl rfl)
theorem dX1_requireIndex_30 : decode cX1_requireIndex 30 = .ok (.iinc 3 1, 3) := dk_132 3 1 (dk_at dksX1_requireIndex_1 8 rfl rfl)
theorem dX1_requireIndex_33 : decode cX1_requireIndex 33 = .ok (.goto (-26), 3) := dk_167 255 230 (dk_at dksX1_requireIndex_1 11 rfl rfl)
theorem dX1_requireIndex_36 : decode cX1_requireIndex 36 = .ok (.return_, 1) := dk_177 (dk_at dksX1_requireIndex_1 14 rfl rfl)
abbrev cX1_requireMonth : ByteArray := prog_1_method_15_code
def yX1_requireMonth : MethodName := ⟨RX1, "requireMonth", "()V"⟩
def dkwX1_requireMonth_0 : List UInt8 := [42, 180, 0, 39, 180, 0, 111, 16, 60, 160, 0, 11, 187, 0, 114, 89, 183, 0, 116, 191, 177]
abbrev dktX1_requireMonth_0 : List UInt8 := dkwX1_requireMonth_0 ++ []
theorem dksX1_requireMonth_0 : cX1_requireMonth.data.toList.drop 0 = dktX1_requireMonth_0 := by decide +kernel
theorem dX1_requireMonth_0 : decode cX1_requireMonth 0 = .ok (.aload_n 0, 1) := dk_42 (dk_at dksX1_requireMonth_0 0 rfl rfl)
theorem dX1_requireMonth_1 : decode cX1_requireMonth 1 = .ok (.getfield 39, 3) := dk_180 0 39 (dk_at dksX1_requireMonth_0 1 rfl rfl)
theorem dX1_requireMonth_4 : decode cX1_requireMonth 4 = .ok (.getfield 111, 3) := dk_180 0 111 (dk_at dksX1_requireMonth_0 4 rfl rfl)
theorem dX1_requireMonth_7 : decode cX1_requireMonth 7 = .ok (.bipush 60, 2) := dk_16 60 (dk_at dksX1_requireMonth_0 7 rfl rfl)
theorem dX1_requireMonth_9 : decode cX1_requireMonth 9 = .ok (.if_icmp .ne 11, 3) := dk_160 0 11 (dk_at dksX1_requireMonth_0 9 rfl rfl)
theorem dX1_requireMonth_12 : decode cX1_requireMonth 12 = .ok (.new 114, 3) := dk_187 0 114 (dk_at dksX1_requireMonth_0 12 rfl rfl)
theorem dX1_requireMonth_15 : decode cX1_requireMonth 15 = .ok (.dup, 1) := dk_89 (dk_at dksX1_requireMonth_0 15 rfl rfl)
theorem dX1_requireMonth_16 : decode cX1_requireMonth 16 = .ok (.invokespecial 116, 3) := dk_183 0 116 (dk_at dksX1_requireMonth_0 16 rfl rfl)
theorem dX1_requireMonth_19 : decode cX1_requireMonth 19 = .ok (.athrow, 1) := dk_191 (dk_at dksX1_requireMonth_0 19 rfl rfl)
theorem dX1_requireMonth_20 : decode cX1_requireMonth 20 = .ok (.return_, 1) := dk_177 (dk_at dksX1_requireMonth_0 20 rfl rfl)
abbrev cX1_deliver : ByteArray := prog_1_method_49_code
def yX1_deliver : MethodName := ⟨RX1, "deliver", "(IIIJ)J"⟩
def dkwX1_deliver_7 : List UInt8 := [25, 6, 180, 1, 16, 173]
abbrev dktX1_deliver_7 : List UInt8 := dkwX1_deliver_7 ++ []
def dkwX1_deliver_6 : List UInt8 := [153, 0, 24, 42, 180, 0, 39, 180, 1, 20, 25, 6, 180, 0, 125, 50, 21, 7, 92, 47, 22, 4, 97, 80]
abbrev dktX1_deliver_6 : List UInt8 := dkwX1_deliver_6 ++ dktX1_deliver_7
def dkwX1_deliver_5 : List UInt8 := [21, 7, 182, 0, 134, 182, 0, 208, 153, 0, 39, 42, 25, 6, 180, 0, 125, 182, 0, 134, 182, 0, 208]
abbrev dktX1_deliver_5 : List UInt8 := dkwX1_deliver_5 ++ dktX1_deliver_6
def dkwX1_deliver_4 : List UInt8 := [184, 0, 180, 51, 54, 7, 21, 7, 2, 159, 0, 61, 21, 7, 25, 6, 180, 0, 125, 159, 0, 51, 42]
abbrev dktX1_deliver_4 : List UInt8 := dkwX1_deliver_4 ++ dktX1_deliver_5
def dkwX1_deliver_3 : List UInt8 := [25, 6, 89, 180, 1, 16, 22, 4, 97, 181, 1, 16, 42, 180, 0, 39, 180, 0, 171, 180, 0, 175, 28, 29]
abbrev dktX1_deliver_3 : List UInt8 := dkwX1_deliver_3 ++ dktX1_deliver_4
def dkwX1_deliver_2 : List UInt8 := [20, 1, 14, 173, 25, 6, 180, 1, 16, 22, 4, 97, 20, 1, 6, 148, 158, 0, 7, 20, 1, 18, 173]
abbrev dktX1_deliver_2 : List UInt8 := dkwX1_deliver_2 ++ dktX1_deliver_3
def dkwX1_deliver_1 : List UInt8 := [20, 1, 6, 184, 0, 84, 84, 184, 0, 168, 42, 182, 1, 8, 25, 6, 182, 1, 11, 154, 0, 7]
abbrev dktX1_deliver_1 : List UInt8 := dkwX1_deliver_1 ++ dktX1_deliver_2
def dkwX1_deliver_0 : List UInt8 := [42, 27, 182, 0, 121, 58, 6, 5, 188, 4, 89, 3, 28, 29, 184, 0, 164, 84, 89, 4, 22, 4, 10]
abbrev dktX1_deliver_0 : List UInt8 := dkwX1_deliver_0 ++ dktX1_deliver_1
theorem dksX1_deliver_0 : cX1_deliver.data.toList.drop 0 = dktX1_deliver_0 := by decide +kernel
theorem dksX1_deliver_1 : cX1_deliver.data.toList.drop 23 = dktX1_deliver_1 := dk_seg dksX1_deliver_0 23 rfl rfl
theorem dksX1_deliver_2 : cX1_deliver.data.toList.drop 45 = dktX1_deliver_2 := dk_seg dksX1_deliver_1 22 rfl rfl
theorem dksX1_deliver_3 : cX1_deliver.data.toList.drop 68 = dktX1_deliver_3 := dk_seg dksX1_deliver_2 23 rfl rfl
theorem dksX1_deliver_4 : cX1_deliver.data.toList.drop 92 = dktX1_deliver_4 := dk_seg dksX1_deliver_3 24 rfl rfl
theorem dksX1_deliver_5 : cX1_deliver.data.toList.drop 115 = dktX1_deliver_5 := dk_seg dksX1_deliver_4 23 rfl rfl
theorem dksX1_deliver_6 : cX1_deliver.data.toList.drop 138 = dktX1_deliver_6 := dk_seg dksX1_deliver_5 23 rfl rfl
theorem dksX1_deliver_7 : cX1_deliver.data.toList.drop 162 = dktX1_deliver_7 := dk_seg dksX1_deliver_6 24 rfl rfl
theorem dX1_deliver_0 : decode cX1_deliver 0 = .ok (.aload_n 0, 1) := dk_42 (dk_at dksX1_deliver_0 0 rfl rfl)
theorem dX1_deliver_1 : decode cX1_deliver 1 = .ok (.iload_n 1, 1) := dk_27 (dk_at dksX1_deliver_0 1 rfl rfl)
theorem dX1_deliver_2 : decode cX1_deliver 2 = .ok (.invokevirtual 121, 3) := dk_182 0 121 (dk_at dksX1_deliver_0 2 rfl rfl)
theorem dX1_deliver_5 : decode cX1_deliver 5 = .ok (.astore 6, 2) := dk_58 6 (dk_at dksX1_deliver_0 5 rfl rfl)
theorem dX1_deliver_7 : decode cX1_deliver 7 = .ok (.iconst 2, 1) := dk_5 (dk_at dksX1_deliver_0 7 rfl rfl)
theorem dX1_deliver_8 : decode cX1_deliver 8 = .ok (.newarray .boolean, 2) := dk_188_4 (dk_at dksX1_deliver_0 8 rfl rfl)
theorem dX1_deliver_10 : decode cX1_deliver 10 = .ok (.dup, 1) := dk_89 (dk_at dksX1_deliver_0 10 rfl rfl)
theorem dX1_deliver_11 : decode cX1_deliver 11 = .ok (.iconst 0, 1) := dk_3 (dk_at dksX1_deliver_0 11 rfl rfl)
theorem dX1_deliver_12 : decode cX1_deliver 12 = .ok (.iload_n 2, 1) := dk_28 (dk_at dksX1_deliver_0 12 rfl rfl)
theorem dX1_deliver_13 : decode cX1_deliver 13 = .ok (.iload_n 3, 1) := dk_29 (dk_at dksX1_deliver_0 13 rfl rfl)
theorem dX1_deliver_14 : decode cX1_deliver 14 = .ok (.invokestatic 164, 3) := dk_184 0 164 (dk_at dksX1_deliver_0 14 rfl rfl)
theorem dX1_deliver_17 : decode cX1_deliver 17 = .ok (.bastore, 1) := dk_84 (dk_at dksX1_deliver_0 17 rfl rfl)
theorem dX1_deliver_18 : decode cX1_deliver 18 = .ok (.dup, 1) := dk_89 (dk_at dksX1_deliver_0 18 rfl rfl)
theorem dX1_deliver_19 : decode cX1_deliver 19 = .ok (.iconst 1, 1) := dk_4 (dk_at dksX1_deliver_0 19 rfl rfl)
theorem dX1_deliver_20 : decode cX1_deliver 20 = .ok (.lload 4, 2) := dk_22 4 (dk_at dksX1_deliver_0 20 rfl rfl)
theorem dX1_deliver_22 : decode cX1_deliver 22 = .ok (.lconst 1, 1) := dk_10 (dk_at dksX1_deliver_0 22 rfl rfl)
theorem dX1_deliver_23 : decode cX1_deliver 23 = .ok (.ldc2_w 262, 3) := dk_20 1 6 (dk_at dksX1_deliver_1 0 rfl rfl)
theorem dX1_deliver_26 : decode cX1_deliver 26 = .ok (.invokestatic 84, 3) := dk_184 0 84 (dk_at dksX1_deliver_1 3 rfl rfl)
theorem dX1_deliver_29 : decode cX1_deliver 29 = .ok (.bastore, 1) := dk_84 (dk_at dksX1_deliver_1 6 rfl rfl)
theorem dX1_deliver_30 : decode cX1_deliver 30 = .ok (.invokestatic 168, 3) := dk_184 0 168 (dk_at dksX1_deliver_1 7 rfl rfl)
theorem dX1_deliver_33 : decode cX1_deliver 33 = .ok (.aload_n 0, 1) := dk_42 (dk_at dksX1_deliver_1 10 rfl rfl)
theorem dX1_deliver_34 : decode cX1_deliver 34 = .ok (.invokevirtual 264, 3) := dk_182 1 8 (dk_at dksX1_deliver_1 11 rfl rfl)
theorem dX1_deliver_37 : decode cX1_deliver 37 = .ok (.aload 6, 2) := dk_25 6 (dk_at dksX1_deliver_1 14 rfl rfl)
theorem dX1_deliver_39 : decode cX1_deliver 39 = .ok (.invokevirtual 267, 3) := dk_182 1 11 (dk_at dksX1_deliver_1 16 rfl rfl)
theorem dX1_deliver_42 : decode cX1_deliver 42 = .ok (.ifCond .ne 7, 3) := dk_154 0 7 (dk_at dksX1_deliver_1 19 rfl rfl)
theorem dX1_deliver_45 : decode cX1_deliver 45 = .ok (.ldc2_w 270, 3) := dk_20 1 14 (dk_at dksX1_deliver_2 0 rfl rfl)
theorem dX1_deliver_48 : decode cX1_deliver 48 = .ok (.lreturn, 1) := dk_173 (dk_at dksX1_deliver_2 3 rfl rfl)
theorem dX1_deliver_49 : decode cX1_deliver 49 = .ok (.aload 6, 2) := dk_25 6 (dk_at dksX1_deliver_2 4 rfl rfl)
theorem dX1_deliver_51 : decode cX1_deliver 51 = .ok (.getfield 272, 3) := dk_180 1 16 (dk_at dksX1_deliver_2 6 rfl rfl)
theorem dX1_deliver_54 : decode cX1_deliver 54 = .ok (.lload 4, 2) := dk_22 4 (dk_at dksX1_deliver_2 9 rfl rfl)
theorem dX1_deliver_56 : decode cX1_deliver 56 = .ok (.ladd, 1) := dk_97 (dk_at dksX1_deliver_2 11 rfl rfl)
theorem dX1_deliver_57 : decode cX1_deliver 57 = .ok (.ldc2_w 262, 3) := dk_20 1 6 (dk_at dksX1_deliver_2 12 rfl rfl)
theorem dX1_deliver_60 : decode cX1_deliver 60 = .ok (.lcmp, 1) := dk_148 (dk_at dksX1_deliver_2 15 rfl rfl)
theorem dX1_deliver_61 : decode cX1_deliver 61 = .ok (.ifCond .le 7, 3) := dk_158 0 7 (dk_at dksX1_deliver_2 16 rfl rfl)
theorem dX1_deliver_64 : decode cX1_deliver 64 = .ok (.ldc2_w 274, 3) := dk_20 1 18 (dk_at dksX1_deliver_2 19 rfl rfl)
theorem dX1_deliver_67 : decode cX1_deliver 67 = .ok (.lreturn, 1) := dk_173 (dk_at dksX1_deliver_2 22 rfl rfl)
theorem dX1_deliver_68 : decode cX1_deliver 68 = .ok (.aload 6, 2) := dk_25 6 (dk_at dksX1_deliver_3 0 rfl rfl)
theorem dX1_deliver_70 : decode cX1_deliver 70 = .ok (.dup, 1) := dk_89 (dk_at dksX1_deliver_3 2 rfl rfl)
theorem dX1_deliver_71 : decode cX1_deliver 71 = .ok (.getfield 272, 3) := dk_180 1 16 (dk_at dksX1_deliver_3 3 rfl rfl)
theorem dX1_deliver_74 : decode cX1_deliver 74 = .ok (.lload 4, 2) := dk_22 4 (dk_at dksX1_deliver_3 6 rfl rfl)
theorem dX1_deliver_76 : decode cX1_deliver 76 = .ok (.ladd, 1) := dk_97 (dk_at dksX1_deliver_3 8 rfl rfl)
theorem dX1_deliver_77 : decode cX1_deliver 77 = .ok (.putfield 272, 3) := dk_181 1 16 (dk_at dksX1_deliver_3 9 rfl rfl)
theorem dX1_deliver_80 : decode cX1_deliver 80 = .ok (.aload_n 0, 1) := dk_42 (dk_at dksX1_deliver_3 12 rfl rfl)
theorem dX1_deliver_81 : decode cX1_deliver 81 = .ok (.getfield 39, 3) := dk_180 0 39 (dk_at dksX1_deliver_3 13 rfl rfl)
theorem dX1_deliver_84 : decode cX1_deliver 84 = .ok (.getfield 171, 3) := dk_180 0 171 (dk_at dksX1_deliver_3 16 rfl rfl)
theorem dX1_deliver_87 : decode cX1_deliver 87 = .ok (.getfield 175, 3) := dk_180 0 175 (dk_at dksX1_deliver_3 19 rfl rfl)
theorem dX1_deliver_90 : decode cX1_deliver 90 = .ok (.iload_n 2, 1) := dk_28 (dk_at dksX1_deliver_3 22 rfl rfl)
theorem dX1_deliver_91 : decode cX1_deliver 91 = .ok (.iload_n 3, 1) := dk_29 (dk_at dksX1_deliver_3 23 rfl rfl)
theorem dX1_deliver_92 : decode cX1_deliver 92 = .ok (.invokestatic 180, 3) := dk_184 0 180 (dk_at dksX1_deliver_4 0 rfl rfl)
theorem dX1_deliver_95 : decode cX1_deliver 95 = .ok (.baload, 1) := dk_51 (dk_at dksX1_deliver_4 3 rfl rfl)
theorem dX1_deliver_96 : decode cX1_deliver 96 = .ok (.istore 7, 2) := dk_54 7 (dk_at dksX1_deliver_4 4 rfl rfl)
theorem dX1_deliver_98 : decode cX1_deliver 98 = .ok (.iload 7, 2) := dk_21 7 (dk_at dksX1_deliver_4 6 rfl rfl)
theorem dX1_deliver_100 : decode cX1_deliver 100 = .ok (.iconst (-1), 1) := dk_2 (dk_at dksX1_deliver_4 8 rfl rfl)
theorem dX1_deliver_101 : decode cX1_deliver 101 = .ok (.if_icmp .eq 61, 3) := dk_159 0 61 (dk_at dksX1_deliver_4 9 rfl rfl)
theorem dX1_deliver_104 : decode cX1_deliver 104 = .ok (.iload 7, 2) := dk_21 7 (dk_at dksX1_deliver_4 12 rfl rfl)
theorem dX1_deliver_106 : decode cX1_deliver 106 = .ok (.aload 6, 2) := dk_25 6 (dk_at dksX1_deliver_4 14 rfl rfl)
theorem dX1_deliver_108 : decode cX1_deliver 108 = .ok (.getfield 125, 3) := dk_180 0 125 (dk_at dksX1_deliver_4 16 rfl rfl)
theorem dX1_deliver_111 : decode cX1_deliver 111 = .ok (.if_icmp .eq 51, 3) := dk_159 0 51 (dk_at dksX1_deliver_4 19 rfl rfl)
theorem dX1_deliver_114 : decode cX1_deliver 114 = .ok (.aload_n 0, 1) := dk_42 (dk_at dksX1_deliver_4 22 rfl rfl)
theorem dX1_deliver_115 : decode cX1_deliver 115 = .ok (.iload 7, 2) := dk_21 7 (dk_at dksX1_deliver_5 0 rfl rfl)
theorem dX1_deliver_117 : decode cX1_deliver 117 = .ok (.invokevirtual 134, 3) := dk_182 0 134 (dk_at dksX1_deliver_5 2 rfl rfl)
theorem dX1_deliver_120 : decode cX1_deliver 120 = .ok (.invokevirtual 208, 3) := dk_182 0 208 (dk_at dksX1_deliver_5 5 rfl rfl)
theorem dX1_deliver_123 : decode cX1_deliver 123 = .ok (.ifCond .eq 39, 3) := dk_153 0 39 (dk_at dksX1_deliver_5 8 rfl rfl)
theorem dX1_deliver_126 : decode cX1_deliver 126 = .ok (.aload_n 0, 1) := dk_42 (dk_at dksX1_deliver_5 11 rfl rfl)
theorem dX1_deliver_127 : decode cX1_deliver 127 = .ok (.aload 6, 2) := dk_25 6 (dk_at dksX1_deliver_5 12 rfl rfl)
theorem dX1_deliver_129 : decode cX1_deliver 129 = .ok (.getfield 125, 3) := dk_180 0 125 (dk_at dksX1_deliver_5 14 rfl rfl)
theorem dX1_deliver_132 : decode cX1_deliver 132 = .ok (.invokevirtual 134, 3) := dk_182 0 134 (dk_at dksX1_deliver_5 17 rfl rfl)
theorem dX1_deliver_135 : decode cX1_deliver 135 = .ok (.invokevirtual 208, 3) := dk_182 0 208 (dk_at dksX1_deliver_5 20 rfl rfl)
theorem dX1_deliver_138 : decode cX1_deliver 138 = .ok (.ifCond .eq 24, 3) := dk_153 0 24 (dk_at dksX1_deliver_6 0 rfl rfl)
theorem dX1_deliver_141 : decode cX1_deliver 141 = .ok (.aload_n 0, 1) := dk_42 (dk_at dksX1_deliver_6 3 rfl rfl)
theorem dX1_deliver_142 : decode cX1_deliver 142 = .ok (.getfield 39, 3) := dk_180 0 39 (dk_at dksX1_deliver_6 4 rfl rfl)
theorem dX1_deliver_145 : decode cX1_deliver 145 = .ok (.getfield 276, 3) := dk_180 1 20 (dk_at dksX1_deliver_6 7 rfl rfl)
theorem dX1_deliver_148 : decode cX1_deliver 148 = .ok (.aload 6, 2) := dk_25 6 (dk_at dksX1_deliver_6 10 rfl rfl)
theorem dX1_deliver_150 : decode cX1_deliver 150 = .ok (.getfield 125, 3) := dk_180 0 125 (dk_at dksX1_deliver_6 12 rfl rfl)
theorem dX1_deliver_153 : decode cX1_deliver 153 = .ok (.aaload, 1) := dk_50 (dk_at dksX1_deliver_6 15 rfl rfl)
theorem dX1_deliver_154 : decode cX1_deliver 154 = .ok (.iload 7, 2) := dk_21 7 (dk_at dksX1_deliver_6 16 rfl rfl)
theorem dX1_deliver_156 : decode cX1_deliver 156 = .ok (.dup2, 1) := dk_92 (dk_at dksX1_deliver_6 18 rfl rfl)
theorem dX1_deliver_157 : decode cX1_deliver 157 = .ok (.laload, 1) := dk_47 (dk_at dksX1_deliver_6 19 rfl rfl)
theorem dX1_deliver_158 : decode cX1_deliver 158 = .ok (.lload 4, 2) := dk_22 4 (dk_at dksX1_deliver_6 20 rfl rfl)
theorem dX1_deliver_160 : decode cX1_deliver 160 = .ok (.ladd, 1) := dk_97 (dk_at dksX1_deliver_6 22 rfl rfl)
theorem dX1_deliver_161 : decode cX1_deliver 161 = .ok (.lastore, 1) := dk_80 (dk_at dksX1_deliver_6 23 rfl rfl)
theorem dX1_deliver_162 : decode cX1_deliver 162 = .ok (.aload 6, 2) := dk_25 6 (dk_at dksX1_deliver_7 0 rfl rfl)
theorem dX1_deliver_164 : decode cX1_deliver 164 = .ok (.getfield 272, 3) := dk_180 1 16 (dk_at dksX1_deliver_7 2 rfl rfl)
theorem dX1_deliver_167 : decode cX1_deliver 167 = .ok (.lreturn, 1) := dk_173 (dk_at dksX1_deliver_7 5 rfl rfl)
abbrev cX1_isPlace : ByteArray := prog_1_method_12_code
def yX1_isPlace : MethodName := ⟨RX1, "isPlace", "(II)Z"⟩
def dkwX1_isPlace_1 : List UInt8 := [4, 167, 0, 4, 3, 172]
abbrev dktX1_isPlace_1 : List UInt8 := dkwX1_isPlace_1 ++ []
def dkwX1_isPlace_0 : List UInt8 := [26, 133, 9, 20, 0, 107, 184, 0, 84, 153, 0, 19, 27, 133, 9, 20, 0, 107, 184, 0, 84, 153, 0, 7]
abbrev dktX1_isPlace_0 : List UInt8 := dkwX1_isPlace_0 ++ dktX1_isPlace_1
theorem dksX1_isPlace_0 : cX1_isPlace.data.toList.drop 0 = dktX1_isPlace_0 := by decide +kernel
theorem dksX1_isPlace_1 : cX1_isPlace.data.toList.drop 24 = dktX1_isPlace_1 := dk_seg dksX1_isPlace_0 24 rfl rfl
theorem dX1_isPlace_0 : decode cX1_isPlace 0 = .ok (.iload_n 0, 1) := dk_26 (dk_at dksX1_isPlace_0 0 rfl rfl)
theorem dX1_isPlace_1 : decode cX1_isPlace 1 = .ok (.i2l, 1) := dk_133 (dk_at dksX1_isPlace_0 1 rfl rfl)
theorem dX1_isPlace_2 : decode cX1_isPlace 2 = .ok (.lconst 0, 1) := dk_9 (dk_at dksX1_isPlace_0 2 rfl rfl)
theorem dX1_isPlace_3 : decode cX1_isPlace 3 = .ok (.ldc2_w 107, 3) := dk_20 0 107 (dk_at dksX1_isPlace_0 3 rfl rfl)
theorem dX1_isPlace_6 : decode cX1_isPlace 6 = .ok (.invokestatic 84, 3) := dk_184 0 84 (dk_at dksX1_isPlace_0 6 rfl rfl)
theorem dX1_isPlace_9 : decode cX1_isPlace 9 = .ok (.ifCond .eq 19, 3) := dk_153 0 19 (dk_at dksX1_isPlace_0 9 rfl rfl)
theorem dX1_isPlace_12 : decode cX1_isPlace 12 = .ok (.iload_n 1, 1) := dk_27 (dk_at dksX1_isPlace_0 12 rfl rfl)
theorem dX1_isPlace_13 : decode cX1_isPlace 13 = .ok (.i2l, 1) := dk_133 (dk_at dksX1_isPlace_0 13 rfl rfl)
theorem dX1_isPlace_14 : decode cX1_isPlace 14 = .ok (.lconst 0, 1) := dk_9 (dk_at dksX1_isPlace_0 14 rfl rfl)
theorem dX1_isPlace_15 : decode cX1_isPlace 15 = .ok (.ldc2_w 107, 3) := dk_20 0 107 (dk_at dksX1_isPlace_0 15 rfl rfl)
theorem dX1_isPlace_18 : decode cX1_isPlace 18 = .ok (.invokestatic 84, 3) := dk_184 0 84 (dk_at dksX1_isPlace_0 18 rfl rfl)
theorem dX1_isPlace_21 : decode cX1_isPlace 21 = .ok (.ifCond .eq 7, 3) := dk_153 0 7 (dk_at dksX1_isPlace_0 21 rfl rfl)
theorem dX1_isPlace_24 : decode cX1_isPlace 24 = .ok (.iconst 1, 1) := dk_4 (dk_at dksX1_isPlace_1 0 rfl rfl)
theorem dX1_isPlace_25 : decode cX1_isPlace 25 = .ok (.goto 4, 3) := dk_167 0 4 (dk_at dksX1_isPlace_1 1 rfl rfl)
theorem dX1_isPlace_28 : decode cX1_isPlace 28 = .ok (.iconst 0, 1) := dk_3 (dk_at dksX1_isPlace_1 4 rfl rfl)
theorem dX1_isPlace_29 : decode cX1_isPlace 29 = .ok (.ireturn, 1) := dk_172 (dk_at dksX1_isPlace_1 5 rfl rfl)
abbrev cX1_franchisee : ByteArray := prog_1_method_10_code
def yX1_franchisee : MethodName := ⟨RX1, "franchisee", "(I)LFranchiseLedger$Franchisee;"⟩
def dkwX1_franchisee_1 : List UInt8 := [185, 0, 96, 2, 0, 192, 0, 100, 176]
abbrev dktX1_franchisee_1 : List UInt8 := dkwX1_franchisee_1 ++ []
def dkwX1_franchisee_0 : List UInt8 := [4, 188, 4, 89, 3, 42, 27, 182, 0, 88, 84, 184, 0, 92, 42, 180, 0, 39, 180, 0, 74, 27]
abbrev dktX1_franchisee_0 : List UInt8 := dkwX1_franchisee_0 ++ dktX1_franchisee_1
theorem dksX1_franchisee_0 : cX1_franchisee.data.toList.drop 0 = dktX1_franchisee_0 := by decide +kernel
theorem dksX1_franchisee_1 : cX1_franchisee.data.toList.drop 22 = dktX1_franchisee_1 := dk_seg dksX1_franchisee_0 22 rfl rfl
theorem dX1_franchisee_0 : decode cX1_franchisee 0 = .ok (.iconst 1, 1) := dk_4 (dk_at dksX1_franchisee_0 0 rfl rfl)
theorem dX1_franchisee_1 : decode cX1_franchisee 1 = .ok (.newarray .boolean, 2) := dk_188_4 (dk_at dksX1_franchisee_0 1 rfl rfl)
theorem dX1_franchisee_3 : decode cX1_franchisee 3 = .ok (.dup, 1) := dk_89 (dk_at dksX1_franchisee_0 3 rfl rfl)
theorem dX1_franchisee_4 : decode cX1_franchisee 4 = .ok (.iconst 0, 1) := dk_3 (dk_at dksX1_franchisee_0 4 rfl rfl)
theorem dX1_franchisee_5 : decode cX1_franchisee 5 = .ok (.aload_n 0, 1) := dk_42 (dk_at dksX1_franchisee_0 5 rfl rfl)
theorem dX1_franchisee_6 : decode cX1_franchisee 6 = .ok (.iload_n 1, 1) := dk_27 (dk_at dksX1_franchisee_0 6 rfl rfl)
theorem dX1_franchisee_7 : decode cX1_franchisee 7 = .ok (.invokevirtual 88, 3) := dk_182 0 88 (dk_at dksX1_franchisee_0 7 rfl rfl)
theorem dX1_franchisee_10 : decode cX1_franchisee 10 = .ok (.bastore, 1) := dk_84 (dk_at dksX1_franchisee_0 10 rfl rfl)
theorem dX1_franchisee_11 : decode cX1_franchisee 11 = .ok (.invokestatic 92, 3) := dk_184 0 92 (dk_at dksX1_franchisee_0 11 rfl rfl)
theorem dX1_franchisee_14 : decode cX1_franchisee 14 = .ok (.aload_n 0, 1) := dk_42 (dk_at dksX1_franchisee_0 14 rfl rfl)
theorem dX1_franchisee_15 : decode cX1_franchisee 15 = .ok (.getfield 39, 3) := dk_180 0 39 (dk_at dksX1_franchisee_0 15 rfl rfl)
theorem dX1_franchisee_18 : decode cX1_franchisee 18 = .ok (.getfield 74, 3) := dk_180 0 74 (dk_at dksX1_franchisee_0 18 rfl rfl)
theorem dX1_franchisee_21 : decode cX1_franchisee 21 = .ok (.iload_n 1, 1) := dk_27 (dk_at dksX1_franchisee_0 21 rfl rfl)
theorem dX1_franchisee_22 : decode cX1_franchisee 22 = .ok (.invokeinterface 96 2, 5) := by decide +kernel
theorem dX1_franchisee_27 : decode cX1_franchisee 27 = .ok (.checkcast 100, 3) := dk_192 0 100 (dk_at dksX1_franchisee_1 5 rfl rfl)
theorem dX1_franchisee_30 : decode cX1_franchisee 30 = .ok (.areturn, 1) := dk_176 (dk_at dksX1_franchisee_1 8 rfl rfl)
abbrev cX1_isFranchisee : ByteArray := prog_1_method_9_code
def yX1_isFranchisee : MethodName := ⟨RX1, "isFranchisee", "(I)Z"⟩
def dkwX1_isFranchisee_0 : List UInt8 := [27, 133, 9, 42, 180, 0, 39, 180, 0, 74, 185, 0, 78, 1, 0, 4, 100, 133, 184, 0, 84, 172]
abbrev dktX1_isFranchisee_0 : List UInt8 := dkwX1_isFranchisee_0 ++ []
theorem dksX1_isFranchisee_0 : cX1_isFranchisee.data.toList.drop 0 = dktX1_isFranchisee_0 := by decide +kernel
theorem dX1_isFranchisee_0 : decode cX1_isFranchisee 0 = .ok (.iload_n 1, 1) := dk_27 (dk_at dksX1_isFranchisee_0 0 rfl rfl)
theorem dX1_isFranchisee_1 : decode cX1_isFranchisee 1 = .ok (.i2l, 1) := dk_133 (dk_at dksX1_isFranchisee_0 1 rfl rfl)
theorem dX1_isFranchisee_2 : decode cX1_isFranchisee 2 = .ok (.lconst 0, 1) := dk_9 (dk_at dksX1_isFranchisee_0 2 rfl rfl)
theorem dX1_isFranchisee_3 : decode cX1_isFranchisee 3 = .ok (.aload_n 0, 1) := dk_42 (dk_at dksX1_isFranchisee_0 3 rfl rfl)
theorem dX1_isFranchisee_4 : decode cX1_isFranchisee 4 = .ok (.getfield 39, 3) := dk_180 0 39 (dk_at dksX1_isFranchisee_0 4 rfl rfl)
theorem dX1_isFranchisee_7 : decode cX1_isFranchisee 7 = .ok (.getfield 74, 3) := dk_180 0 74 (dk_at dksX1_isFranchisee_0 7 rfl rfl)
theorem dX1_isFranchisee_10 : decode cX1_isFranchisee 10 = .ok (.invokeinterface 78 1, 5) := by decide +kernel
theorem dX1_isFranchisee_15 : decode cX1_isFranchisee 15 = .ok (.iconst 1, 1) := dk_4 (dk_at dksX1_isFranchisee_0 15 rfl rfl)
theorem dX1_isFranchisee_16 : decode cX1_isFranchisee 16 = .ok (.isub, 1) := dk_100 (dk_at dksX1_isFranchisee_0 16 rfl rfl)
theorem dX1_isFranchisee_17 : decode cX1_isFranchisee 17 = .ok (.i2l, 1) := dk_133 (dk_at dksX1_isFranchisee_0 17 rfl rfl)
theorem dX1_isFranchisee_18 : decode cX1_isFranchisee 18 = .ok (.invokestatic 84, 3) := dk_184 0 84 (dk_at dksX1_isFranchisee_0 18 rfl rfl)
theorem dX1_isFranchisee_21 : decode cX1_isFranchisee 21 = .ok (.ireturn, 1) := dk_172 (dk_at dksX1_isFranchisee_0 21 rfl rfl)
abbrev cX1_pay : ByteArray := prog_1_method_58_code
def yX1_pay : MethodName := ⟨RX1, "pay", "(IJ)J"⟩
def dkwX1_pay_1 : List UInt8 := [180, 0, 153, 32, 101, 181, 0, 153, 25, 4, 180, 0, 153, 173]
abbrev dktX1_pay_1 : List UInt8 := dkwX1_pay_1 ++ []
def dkwX1_pay_0 : List UInt8 := [42, 27, 182, 0, 134, 58, 4, 4, 188, 4, 89, 3, 32, 184, 1, 55, 84, 184, 0, 168, 25, 4, 89]
abbrev dktX1_pay_0 : List UInt8 := dkwX1_pay_0 ++ dktX1_pay_1
theorem dksX1_pay_0 : cX1_pay.data.toList.drop 0 = dktX1_pay_0 := by decide +kernel
theorem dksX1_pay_1 : cX1_pay.data.toList.drop 23 = dktX1_pay_1 := dk_seg dksX1_pay_0 23 rfl rfl
theorem dX1_pay_0 : decode cX1_pay 0 = .ok (.aload_n 0, 1) := dk_42 (dk_at dksX1_pay_0 0 rfl rfl)
theorem dX1_pay_1 : decode cX1_pay 1 = .ok (.iload_n 1, 1) := dk_27 (dk_at dksX1_pay_0 1 rfl rfl)
theorem dX1_pay_2 : decode cX1_pay 2 = .ok (.invokevirtual 134, 3) := dk_182 0 134 (dk_at dksX1_pay_0 2 rfl rfl)
theorem dX1_pay_5 : decode cX1_pay 5 = .ok (.astore 4, 2) := dk_58 4 (dk_at dksX1_pay_0 5 rfl rfl)
theorem dX1_pay_7 : decode cX1_pay 7 = .ok (.iconst 1, 1) := dk_4 (dk_at dksX1_pay_0 7 rfl rfl)
theorem dX1_pay_8 : decode cX1_pay 8 = .ok (.newarray .boolean, 2) := dk_188_4 (dk_at dksX1_pay_0 8 rfl rfl)
theorem dX1_pay_10 : decode cX1_pay 10 = .ok (.dup, 1) := dk_89 (dk_at dksX1_pay_0 10 rfl rfl)
theorem dX1_pay_11 : decode cX1_pay 11 = .ok (.iconst 0, 1) := dk_3 (dk_at dksX1_pay_0 11 rfl rfl)
theorem dX1_pay_12 : decode cX1_pay 12 = .ok (.lload_n 2, 1) := dk_32 (dk_at dksX1_pay_0 12 rfl rfl)
theorem dX1_pay_13 : decode cX1_pay 13 = .ok (.invokestatic 311, 3) := dk_184 1 55 (dk_at dksX1_pay_0 13 rfl rfl)
theorem dX1_pay_16 : decode cX1_pay 16 = .ok (.bastore, 1) := dk_84 (dk_at dksX1_pay_0 16 rfl rfl)
theorem dX1_pay_17 : decode cX1_pay 17 = .ok (.invokestatic 168, 3) := dk_184 0 168 (dk_at dksX1_pay_0 17 rfl rfl)
theorem dX1_pay_20 : decode cX1_pay 20 = .ok (.aload 4, 2) := dk_25 4 (dk_at dksX1_pay_0 20 rfl rfl)
theorem dX1_pay_22 : decode cX1_pay 22 = .ok (.dup, 1) := dk_89 (dk_at dksX1_pay_0 22 rfl rfl)
theorem dX1_pay_23 : decode cX1_pay 23 = .ok (.getfield 153, 3) := dk_180 0 153 (dk_at dksX1_pay_1 0 rfl rfl)
theorem dX1_pay_26 : decode cX1_pay 26 = .ok (.lload_n 2, 1) := dk_32 (dk_at dksX1_pay_1 3 rfl rfl)
theorem dX1_pay_27 : decode cX1_pay 27 = .ok (.lsub, 1) := dk_101 (dk_at dksX1_pay_1 4 rfl rfl)
theorem dX1_pay_28 : decode cX1_pay 28 = .ok (.putfield 153, 3) := dk_181 0 153 (dk_at dksX1_pay_1 5 rfl rfl)
theorem dX1_pay_31 : decode cX1_pay 31 = .ok (.aload 4, 2) := dk_25 4 (dk_at dksX1_pay_1 8 rfl rfl)
theorem dX1_pay_33 : decode cX1_pay 33 = .ok (.getfield 153, 3) := dk_180 0 153 (dk_at dksX1_pay_1 10 rfl rfl)
theorem dX1_pay_36 : decode cX1_pay 36 = .ok (.lreturn, 1) := dk_173 (dk_at dksX1_pay_1 13 rfl rfl)
abbrev cX1_isAmount : ByteArray := prog_1_method_13_code
def yX1_isAmount : MethodName := ⟨RX1, "isAmount", "(J)Z"⟩
def dkwX1_isAmount_0 : List UInt8 := [30, 10, 20, 0, 109, 184, 0, 84, 172]
abbrev dktX1_isAmount_0 : List UInt8 := dkwX1_isAmount_0 ++ []
theorem dksX1_isAmount_0 : cX1_isAmount.data.toList.drop 0 = dktX1_isAmount_0 := by decide +kernel
theorem dX1_isAmount_0 : decode cX1_isAmount 0 = .ok (.lload_n 0, 1) := dk_30 (dk_at dksX1_isAmount_0 0 rfl rfl)
theorem dX1_isAmount_1 : decode cX1_isAmount 1 = .ok (.lconst 1, 1) := dk_10 (dk_at dksX1_isAmount_0 1 rfl rfl)
theorem dX1_isAmount_2 : decode cX1_isAmount 2 = .ok (.ldc2_w 109, 3) := dk_20 0 109 (dk_at dksX1_isAmount_0 2 rfl rfl)
theorem dX1_isAmount_5 : decode cX1_isAmount 5 = .ok (.invokestatic 84, 3) := dk_184 0 84 (dk_at dksX1_isAmount_0 5 rfl rfl)
theorem dX1_isAmount_8 : decode cX1_isAmount 8 = .ok (.ireturn, 1) := dk_172 (dk_at dksX1_isAmount_0 8 rfl rfl)
abbrev cX1_grant : ByteArray := prog_1_method_64_code
def yX1_grant : MethodName := ⟨RX1, "grant", "(IJ)Z"⟩
def dkwX1_grant_3 : List UInt8 := [101, 181, 0, 153, 42, 180, 0, 39, 180, 1, 76, 5, 92, 47, 32, 97, 80, 4, 172]
abbrev dktX1_grant_3 : List UInt8 := dkwX1_grant_3 ++ []
def dkwX1_grant_2 : List UInt8 := [148, 158, 0, 5, 3, 172, 25, 4, 89, 180, 1, 79, 32, 97, 181, 1, 79, 25, 4, 89, 180, 0, 153, 32]
abbrev dktX1_grant_2 : List UInt8 := dkwX1_grant_2 ++ dktX1_grant_3
def dkwX1_grant_1 : List UInt8 := [182, 0, 208, 153, 0, 25, 32, 25, 4, 182, 0, 160, 148, 157, 0, 15, 32, 42, 180, 0, 39, 182, 1, 71]
abbrev dktX1_grant_1 : List UInt8 := dkwX1_grant_1 ++ dktX1_grant_2
def dkwX1_grant_0 : List UInt8 := [42, 27, 182, 0, 134, 58, 4, 4, 188, 4, 89, 3, 32, 184, 1, 55, 84, 184, 0, 168, 25, 4]
abbrev dktX1_grant_0 : List UInt8 := dkwX1_grant_0 ++ dktX1_grant_1
theorem dksX1_grant_0 : cX1_grant.data.toList.drop 0 = dktX1_grant_0 := by decide +kernel
theorem dksX1_grant_1 : cX1_grant.data.toList.drop 22 = dktX1_grant_1 := dk_seg dksX1_grant_0 22 rfl rfl
theorem dksX1_grant_2 : cX1_grant.data.toList.drop 46 = dktX1_grant_2 := dk_seg dksX1_grant_1 24 rfl rfl
theorem dksX1_grant_3 : cX1_grant.data.toList.drop 70 = dktX1_grant_3 := dk_seg dksX1_grant_2 24 rfl rfl
theorem dX1_grant_0 : decode cX1_grant 0 = .ok (.aload_n 0, 1) := dk_42 (dk_at dksX1_grant_0 0 rfl rfl)
theorem dX1_grant_1 : decode cX1_grant 1 = .ok (.iload_n 1, 1) := dk_27 (dk_at dksX1_grant_0 1 rfl rfl)
theorem dX1_grant_2 : decode cX1_grant 2 = .ok (.invokevirtual 134, 3) := dk_182 0 134 (dk_at dksX1_grant_0 2 rfl rfl)
theorem dX1_grant_5 : decode cX1_grant 5 = .ok (.astore 4, 2) := dk_58 4 (dk_at dksX1_grant_0 5 rfl rfl)
theorem dX1_grant_7 : decode cX1_grant 7 = .ok (.iconst 1, 1) := dk_4 (dk_at dksX1_grant_0 7 rfl rfl)
theorem dX1_grant_8 : decode cX1_grant 8 = .ok (.newarray .boolean, 2) := dk_188_4 (dk_at dksX1_grant_0 8 rfl rfl)
theorem dX1_grant_10 : decode cX1_grant 10 = .ok (.dup, 1) := dk_89 (dk_at dksX1_grant_0 10 rfl rfl)
theorem dX1_grant_11 : decode cX1_grant 11 = .ok (.iconst 0, 1) := dk_3 (dk_at dksX1_grant_0 11 rfl rfl)
theorem dX1_grant_12 : decode cX1_grant 12 = .ok (.lload_n 2, 1) := dk_32 (dk_at dksX1_grant_0 12 rfl rfl)
theorem dX1_grant_13 : decode cX1_grant 13 = .ok (.invokestatic 311, 3) := dk_184 1 55 (dk_at dksX1_grant_0 13 rfl rfl)
theorem dX1_grant_16 : decode cX1_grant 16 = .ok (.bastore, 1) := dk_84 (dk_at dksX1_grant_0 16 rfl rfl)
theorem dX1_grant_17 : decode cX1_grant 17 = .ok (.invokestatic 168, 3) := dk_184 0 168 (dk_at dksX1_grant_0 17 rfl rfl)
theorem dX1_grant_20 : decode cX1_grant 20 = .ok (.aload 4, 2) := dk_25 4 (dk_at dksX1_grant_0 20 rfl rfl)
theorem dX1_grant_22 : decode cX1_grant 22 = .ok (.invokevirtual 208, 3) := dk_182 0 208 (dk_at dksX1_grant_1 0 rfl rfl)
theorem dX1_grant_25 : decode cX1_grant 25 = .ok (.ifCond .eq 25, 3) := dk_153 0 25 (dk_at dksX1_grant_1 3 rfl rfl)
theorem dX1_grant_28 : decode cX1_grant 28 = .ok (.lload_n 2, 1) := dk_32 (dk_at dksX1_grant_1 6 rfl rfl)
theorem dX1_grant_29 : decode cX1_grant 29 = .ok (.aload 4, 2) := dk_25 4 (dk_at dksX1_grant_1 7 rfl rfl)
theorem dX1_grant_31 : decode cX1_grant 31 = .ok (.invokevirtual 160, 3) := dk_182 0 160 (dk_at dksX1_grant_1 9 rfl rfl)
theorem dX1_grant_34 : decode cX1_grant 34 = .ok (.lcmp, 1) := dk_148 (dk_at dksX1_grant_1 12 rfl rfl)
theorem dX1_grant_35 : decode cX1_grant 35 = .ok (.ifCond .gt 15, 3) := dk_157 0 15 (dk_at dksX1_grant_1 13 rfl rfl)
theorem dX1_grant_38 : decode cX1_grant 38 = .ok (.lload_n 2, 1) := dk_32 (dk_at dksX1_grant_1 16 rfl rfl)
theorem dX1_grant_39 : decode cX1_grant 39 = .ok (.aload_n 0, 1) := dk_42 (dk_at dksX1_grant_1 17 rfl rfl)
theorem dX1_grant_40 : decode cX1_grant 40 = .ok (.getfield 39, 3) := dk_180 0 39 (dk_at dksX1_grant_1 18 rfl rfl)
theorem dX1_grant_43 : decode cX1_grant 43 = .ok (.invokevirtual 327, 3) := dk_182 1 71 (dk_at dksX1_grant_1 21 rfl rfl)
theorem dX1_grant_46 : decode cX1_grant 46 = .ok (.lcmp, 1) := dk_148 (dk_at dksX1_grant_2 0 rfl rfl)
theorem dX1_grant_47 : decode cX1_grant 47 = .ok (.ifCond .le 5, 3) := dk_158 0 5 (dk_at dksX1_grant_2 1 rfl rfl)
theorem dX1_grant_50 : decode cX1_grant 50 = .ok (.iconst 0, 1) := dk_3 (dk_at dksX1_grant_2 4 rfl rfl)
theorem dX1_grant_51 : decode cX1_grant 51 = .ok (.ireturn, 1) := dk_172 (dk_at dksX1_grant_2 5 rfl rfl)
theorem dX1_grant_52 : decode cX1_grant 52 = .ok (.aload 4, 2) := dk_25 4 (dk_at dksX1_grant_2 6 rfl rfl)
theorem dX1_grant_54 : decode cX1_grant 54 = .ok (.dup, 1) := dk_89 (dk_at dksX1_grant_2 8 rfl rfl)
theorem dX1_grant_55 : decode cX1_grant 55 = .ok (.getfield 335, 3) := dk_180 1 79 (dk_at dksX1_grant_2 9 rfl rfl)
theorem dX1_grant_58 : decode cX1_grant 58 = .ok (.lload_n 2, 1) := dk_32 (dk_at dksX1_grant_2 12 rfl rfl)
theorem dX1_grant_59 : decode cX1_grant 59 = .ok (.ladd, 1) := dk_97 (dk_at dksX1_grant_2 13 rfl rfl)
theorem dX1_grant_60 : decode cX1_grant 60 = .ok (.putfield 335, 3) := dk_181 1 79 (dk_at dksX1_grant_2 14 rfl rfl)
theorem dX1_grant_63 : decode cX1_grant 63 = .ok (.aload 4, 2) := dk_25 4 (dk_at dksX1_grant_2 17 rfl rfl)
theorem dX1_grant_65 : decode cX1_grant 65 = .ok (.dup, 1) := dk_89 (dk_at dksX1_grant_2 19 rfl rfl)
theorem dX1_grant_66 : decode cX1_grant 66 = .ok (.getfield 153, 3) := dk_180 0 153 (dk_at dksX1_grant_2 20 rfl rfl)
theorem dX1_grant_69 : decode cX1_grant 69 = .ok (.lload_n 2, 1) := dk_32 (dk_at dksX1_grant_2 23 rfl rfl)
theorem dX1_grant_70 : decode cX1_grant 70 = .ok (.lsub, 1) := dk_101 (dk_at dksX1_grant_3 0 rfl rfl)
theorem dX1_grant_71 : decode cX1_grant 71 = .ok (.putfield 153, 3) := dk_181 0 153 (dk_at dksX1_grant_3 1 rfl rfl)
theorem dX1_grant_74 : decode cX1_grant 74 = .ok (.aload_n 0, 1) := dk_42 (dk_at dksX1_grant_3 4 rfl rfl)
theorem dX1_grant_75 : decode cX1_grant 75 = .ok (.getfield 39, 3) := dk_180 0 39 (dk_at dksX1_grant_3 5 rfl rfl)
theorem dX1_grant_78 : decode cX1_grant 78 = .ok (.getfield 332, 3) := dk_180 1 76 (dk_at dksX1_grant_3 8 rfl rfl)
theorem dX1_grant_81 : decode cX1_grant 81 = .ok (.iconst 2, 1) := dk_5 (dk_at dksX1_grant_3 11 rfl rfl)
theorem dX1_grant_82 : decode cX1_grant 82 = .ok (.dup2, 1) := dk_92 (dk_at dksX1_grant_3 12 rfl rfl)
theorem dX1_grant_83 : decode cX1_grant 83 = .ok (.laload, 1) := dk_47 (dk_at dksX1_grant_3 13 rfl rfl)
theorem dX1_grant_84 : decode cX1_grant 84 = .ok (.lload_n 2, 1) := dk_32 (dk_at dksX1_grant_3 14 rfl rfl)
theorem dX1_grant_85 : decode cX1_grant 85 = .ok (.ladd, 1) := dk_97 (dk_at dksX1_grant_3 15 rfl rfl)
theorem dX1_grant_86 : decode cX1_grant 86 = .ok (.lastore, 1) := dk_80 (dk_at dksX1_grant_3 16 rfl rfl)
theorem dX1_grant_87 : decode cX1_grant 87 = .ok (.iconst 1, 1) := dk_4 (dk_at dksX1_grant_3 17 rfl rfl)
theorem dX1_grant_88 : decode cX1_grant 88 = .ok (.ireturn, 1) := dk_172 (dk_at dksX1_grant_3 18 rfl rfl)
abbrev cX1_campaign : ByteArray := prog_1_method_63_code
def yX1_campaign : MethodName := ⟨RX1, "campaign", "(J)Z"⟩
def dkwX1_campaign_1 : List UInt8 := [158, 0, 5, 3, 172, 42, 180, 0, 39, 180, 1, 76, 4, 92, 47, 31, 97, 80, 4, 172]
abbrev dktX1_campaign_1 : List UInt8 := dkwX1_campaign_1 ++ []
def dkwX1_campaign_0 : List UInt8 := [4, 188, 4, 89, 3, 31, 184, 1, 55, 84, 184, 0, 168, 31, 42, 180, 0, 39, 182, 1, 71, 148]
abbrev dktX1_campaign_0 : List UInt8 := dkwX1_campaign_0 ++ dktX1_campaign_1
theorem dksX1_campaign_0 : cX1_campaign.data.toList.drop 0 = dktX1_campaign_0 := by decide +kernel
theorem dksX1_campaign_1 : cX1_campaign.data.toList.drop 22 = dktX1_campaign_1 := dk_seg dksX1_campaign_0 22 rfl rfl
theorem dX1_campaign_0 : decode cX1_campaign 0 = .ok (.iconst 1, 1) := dk_4 (dk_at dksX1_campaign_0 0 rfl rfl)
theorem dX1_campaign_1 : decode cX1_campaign 1 = .ok (.newarray .boolean, 2) := dk_188_4 (dk_at dksX1_campaign_0 1 rfl rfl)
theorem dX1_campaign_3 : decode cX1_campaign 3 = .ok (.dup, 1) := dk_89 (dk_at dksX1_campaign_0 3 rfl rfl)
theorem dX1_campaign_4 : decode cX1_campaign 4 = .ok (.iconst 0, 1) := dk_3 (dk_at dksX1_campaign_0 4 rfl rfl)
theorem dX1_campaign_5 : decode cX1_campaign 5 = .ok (.lload_n 1, 1) := dk_31 (dk_at dksX1_campaign_0 5 rfl rfl)
theorem dX1_campaign_6 : decode cX1_campaign 6 = .ok (.invokestatic 311, 3) := dk_184 1 55 (dk_at dksX1_campaign_0 6 rfl rfl)
theorem dX1_campaign_9 : decode cX1_campaign 9 = .ok (.bastore, 1) := dk_84 (dk_at dksX1_campaign_0 9 rfl rfl)
theorem dX1_campaign_10 : decode cX1_campaign 10 = .ok (.invokestatic 168, 3) := dk_184 0 168 (dk_at dksX1_campaign_0 10 rfl rfl)
theorem dX1_campaign_13 : decode cX1_campaign 13 = .ok (.lload_n 1, 1) := dk_31 (dk_at dksX1_campaign_0 13 rfl rfl)
theorem dX1_campaign_14 : decode cX1_campaign 14 = .ok (.aload_n 0, 1) := dk_42 (dk_at dksX1_campaign_0 14 rfl rfl)
theorem dX1_campaign_15 : decode cX1_campaign 15 = .ok (.getfield 39, 3) := dk_180 0 39 (dk_at dksX1_campaign_0 15 rfl rfl)
theorem dX1_campaign_18 : decode cX1_campaign 18 = .ok (.invokevirtual 327, 3) := dk_182 1 71 (dk_at dksX1_campaign_0 18 rfl rfl)
theorem dX1_campaign_21 : decode cX1_campaign 21 = .ok (.lcmp, 1) := dk_148 (dk_at dksX1_campaign_0 21 rfl rfl)
theorem dX1_campaign_22 : decode cX1_campaign 22 = .ok (.ifCond .le 5, 3) := dk_158 0 5 (dk_at dksX1_campaign_1 0 rfl rfl)
theorem dX1_campaign_25 : decode cX1_campaign 25 = .ok (.iconst 0, 1) := dk_3 (dk_at dksX1_campaign_1 3 rfl rfl)
theorem dX1_campaign_26 : decode cX1_campaign 26 = .ok (.ireturn, 1) := dk_172 (dk_at dksX1_campaign_1 4 rfl rfl)
theorem dX1_campaign_27 : decode cX1_campaign 27 = .ok (.aload_n 0, 1) := dk_42 (dk_at dksX1_campaign_1 5 rfl rfl)
theorem dX1_campaign_28 : decode cX1_campaign 28 = .ok (.getfield 39, 3) := dk_180 0 39 (dk_at dksX1_campaign_1 6 rfl rfl)
theorem dX1_campaign_31 : decode cX1_campaign 31 = .ok (.getfield 332, 3) := dk_180 1 76 (dk_at dksX1_campaign_1 9 rfl rfl)
theorem dX1_campaign_34 : decode cX1_campaign 34 = .ok (.iconst 1, 1) := dk_4 (dk_at dksX1_campaign_1 12 rfl rfl)
theorem dX1_campaign_35 : decode cX1_campaign 35 = .ok (.dup2, 1) := dk_92 (dk_at dksX1_campaign_1 13 rfl rfl)
theorem dX1_campaign_36 : decode cX1_campaign 36 = .ok (.laload, 1) := dk_47 (dk_at dksX1_campaign_1 14 rfl rfl)
theorem dX1_campaign_37 : decode cX1_campaign 37 = .ok (.lload_n 1, 1) := dk_31 (dk_at dksX1_campaign_1 15 rfl rfl)
theorem dX1_campaign_38 : decode cX1_campaign 38 = .ok (.ladd, 1) := dk_97 (dk_at dksX1_campaign_1 16 rfl rfl)
theorem dX1_campaign_39 : decode cX1_campaign 39 = .ok (.lastore, 1) := dk_80 (dk_at dksX1_campaign_1 17 rfl rfl)
theorem dX1_campaign_40 : decode cX1_campaign 40 = .ok (.iconst 1, 1) := dk_4 (dk_at dksX1_campaign_1 18 rfl rfl)
theorem dX1_campaign_41 : decode cX1_campaign 41 = .ok (.ireturn, 1) := dk_172 (dk_at dksX1_campaign_1 19 rfl rfl)
abbrev cX1_vote : ByteArray := prog_1_method_67_code
def yX1_vote : MethodName := ⟨RX1, "vote", "(IIZ)I"⟩
def dkwX1_vote_2 : List UInt8 := [160, 0, 7, 2, 167, 0, 10, 25, 4, 28, 29, 182, 1, 109, 172]
abbrev dktX1_vote_2 : List UInt8 := dkwX1_vote_2 ++ []
def dkwX1_vote_1 : List UInt8 := [84, 184, 0, 168, 25, 4, 180, 1, 103, 4, 160, 0, 16, 25, 4, 180, 1, 106, 28, 122, 4, 126, 4]
abbrev dktX1_vote_1 : List UInt8 := dkwX1_vote_1 ++ dktX1_vote_2
def dkwX1_vote_0 : List UInt8 := [42, 27, 182, 0, 134, 180, 1, 87, 58, 4, 4, 188, 4, 89, 3, 28, 133, 9, 20, 1, 101, 184, 0, 84]
abbrev dktX1_vote_0 : List UInt8 := dkwX1_vote_0 ++ dktX1_vote_1
theorem dksX1_vote_0 : cX1_vote.data.toList.drop 0 = dktX1_vote_0 := by decide +kernel
theorem dksX1_vote_1 : cX1_vote.data.toList.drop 24 = dktX1_vote_1 := dk_seg dksX1_vote_0 24 rfl rfl
theorem dksX1_vote_2 : cX1_vote.data.toList.drop 47 = dktX1_vote_2 := dk_seg dksX1_vote_1 23 rfl rfl
theorem dX1_vote_0 : decode cX1_vote 0 = .ok (.aload_n 0, 1) := dk_42 (dk_at dksX1_vote_0 0 rfl rfl)
theorem dX1_vote_1 : decode cX1_vote 1 = .ok (.iload_n 1, 1) := dk_27 (dk_at dksX1_vote_0 1 rfl rfl)
theorem dX1_vote_2 : decode cX1_vote 2 = .ok (.invokevirtual 134, 3) := dk_182 0 134 (dk_at dksX1_vote_0 2 rfl rfl)
theorem dX1_vote_5 : decode cX1_vote 5 = .ok (.getfield 343, 3) := dk_180 1 87 (dk_at dksX1_vote_0 5 rfl rfl)
theorem dX1_vote_8 : decode cX1_vote 8 = .ok (.astore 4, 2) := dk_58 4 (dk_at dksX1_vote_0 8 rfl rfl)
theorem dX1_vote_10 : decode cX1_vote 10 = .ok (.iconst 1, 1) := dk_4 (dk_at dksX1_vote_0 10 rfl rfl)
theorem dX1_vote_11 : decode cX1_vote 11 = .ok (.newarray .boolean, 2) := dk_188_4 (dk_at dksX1_vote_0 11 rfl rfl)
theorem dX1_vote_13 : decode cX1_vote 13 = .ok (.dup, 1) := dk_89 (dk_at dksX1_vote_0 13 rfl rfl)
theorem dX1_vote_14 : decode cX1_vote 14 = .ok (.iconst 0, 1) := dk_3 (dk_at dksX1_vote_0 14 rfl rfl)
theorem dX1_vote_15 : decode cX1_vote 15 = .ok (.iload_n 2, 1) := dk_28 (dk_at dksX1_vote_0 15 rfl rfl)
theorem dX1_vote_16 : decode cX1_vote 16 = .ok (.i2l, 1) := dk_133 (dk_at dksX1_vote_0 16 rfl rfl)
theorem dX1_vote_17 : decode cX1_vote 17 = .ok (.lconst 0, 1) := dk_9 (dk_at dksX1_vote_0 17 rfl rfl)
theorem dX1_vote_18 : decode cX1_vote 18 = .ok (.ldc2_w 357, 3) := dk_20 1 101 (dk_at dksX1_vote_0 18 rfl rfl)
theorem dX1_vote_21 : decode cX1_vote 21 = .ok (.invokestatic 84, 3) := dk_184 0 84 (dk_at dksX1_vote_0 21 rfl rfl)
theorem dX1_vote_24 : decode cX1_vote 24 = .ok (.bastore, 1) := dk_84 (dk_at dksX1_vote_1 0 rfl rfl)
theorem dX1_vote_25 : decode cX1_vote 25 = .ok (.invokestatic 168, 3) := dk_184 0 168 (dk_at dksX1_vote_1 1 rfl rfl)
theorem dX1_vote_28 : decode cX1_vote 28 = .ok (.aload 4, 2) := dk_25 4 (dk_at dksX1_vote_1 4 rfl rfl)
theorem dX1_vote_30 : decode cX1_vote 30 = .ok (.getfield 359, 3) := dk_180 1 103 (dk_at dksX1_vote_1 6 rfl rfl)
theorem dX1_vote_33 : decode cX1_vote 33 = .ok (.iconst 1, 1) := dk_4 (dk_at dksX1_vote_1 9 rfl rfl)
theorem dX1_vote_34 : decode cX1_vote 34 = .ok (.if_icmp .ne 16, 3) := dk_160 0 16 (dk_at dksX1_vote_1 10 rfl rfl)
theorem dX1_vote_37 : decode cX1_vote 37 = .ok (.aload 4, 2) := dk_25 4 (dk_at dksX1_vote_1 13 rfl rfl)
theorem dX1_vote_39 : decode cX1_vote 39 = .ok (.getfield 362, 3) := dk_180 1 106 (dk_at dksX1_vote_1 15 rfl rfl)
theorem dX1_vote_42 : decode cX1_vote 42 = .ok (.iload_n 2, 1) := dk_28 (dk_at dksX1_vote_1 18 rfl rfl)
theorem dX1_vote_43 : decode cX1_vote 43 = .ok (.ishr, 1) := dk_122 (dk_at dksX1_vote_1 19 rfl rfl)
theorem dX1_vote_44 : decode cX1_vote 44 = .ok (.iconst 1, 1) := dk_4 (dk_at dksX1_vote_1 20 rfl rfl)
theorem dX1_vote_45 : decode cX1_vote 45 = .ok (.iand, 1) := dk_126 (dk_at dksX1_vote_1 21 rfl rfl)
theorem dX1_vote_46 : decode cX1_vote 46 = .ok (.iconst 1, 1) := dk_4 (dk_at dksX1_vote_1 22 rfl rfl)
theorem dX1_vote_47 : decode cX1_vote 47 = .ok (.if_icmp .ne 7, 3) := dk_160 0 7 (dk_at dksX1_vote_2 0 rfl rfl)
theorem dX1_vote_50 : decode cX1_vote 50 = .ok (.iconst (-1), 1) := dk_2 (dk_at dksX1_vote_2 3 rfl rfl)
theorem dX1_vote_51 : decode cX1_vote 51 = .ok (.goto 10, 3) := dk_167 0 10 (dk_at dksX1_vote_2 4 rfl rfl)
theorem dX1_vote_54 : decode cX1_vote 54 = .ok (.aload 4, 2) := dk_25 4 (dk_at dksX1_vote_2 7 rfl rfl)
theorem dX1_vote_56 : decode cX1_vote 56 = .ok (.iload_n 2, 1) := dk_28 (dk_at dksX1_vote_2 9 rfl rfl)
theorem dX1_vote_57 : decode cX1_vote 57 = .ok (.iload_n 3, 1) := dk_29 (dk_at dksX1_vote_2 10 rfl rfl)
theorem dX1_vote_58 : decode cX1_vote 58 = .ok (.invokevirtual 365, 3) := dk_182 1 109 (dk_at dksX1_vote_2 11 rfl rfl)
theorem dX1_vote_61 : decode cX1_vote 61 = .ok (.ireturn, 1) := dk_172 (dk_at dksX1_vote_2 14 rfl rfl)
abbrev cX1_closeMonth : ByteArray := prog_1_method_54_code
def yX1_closeMonth : MethodName := ⟨RX1, "closeMonth", "()I"⟩
def dkwX1_closeMonth_0 : List UInt8 := [42, 182, 1, 8, 42, 180, 0, 39, 182, 1, 37, 42, 180, 0, 39, 180, 0, 111, 172]
abbrev dktX1_closeMonth_0 : List UInt8 := dkwX1_closeMonth_0 ++ []
theorem dksX1_closeMonth_0 : cX1_closeMonth.data.toList.drop 0 = dktX1_closeMonth_0 := by decide +kernel
theorem dX1_closeMonth_0 : decode cX1_closeMonth 0 = .ok (.aload_n 0, 1) := dk_42 (dk_at dksX1_closeMonth_0 0 rfl rfl)
theorem dX1_closeMonth_1 : decode cX1_closeMonth 1 = .ok (.invokevirtual 264, 3) := dk_182 1 8 (dk_at dksX1_closeMonth_0 1 rfl rfl)
theorem dX1_closeMonth_4 : decode cX1_closeMonth 4 = .ok (.aload_n 0, 1) := dk_42 (dk_at dksX1_closeMonth_0 4 rfl rfl)
theorem dX1_closeMonth_5 : decode cX1_closeMonth 5 = .ok (.getfield 39, 3) := dk_180 0 39 (dk_at dksX1_closeMonth_0 5 rfl rfl)
theorem dX1_closeMonth_8 : decode cX1_closeMonth 8 = .ok (.invokevirtual 293, 3) := dk_182 1 37 (dk_at dksX1_closeMonth_0 8 rfl rfl)
theorem dX1_closeMonth_11 : decode cX1_closeMonth 11 = .ok (.aload_n 0, 1) := dk_42 (dk_at dksX1_closeMonth_0 11 rfl rfl)
theorem dX1_closeMonth_12 : decode cX1_closeMonth 12 = .ok (.getfield 39, 3) := dk_180 0 39 (dk_at dksX1_closeMonth_0 12 rfl rfl)
theorem dX1_closeMonth_15 : decode cX1_closeMonth 15 = .ok (.getfield 111, 3) := dk_180 0 111 (dk_at dksX1_closeMonth_0 15 rfl rfl)
theorem dX1_closeMonth_18 : decode cX1_closeMonth 18 = .ok (.ireturn, 1) := dk_172 (dk_at dksX1_closeMonth_0 18 rfl rfl)
abbrev cX1_owner : ByteArray := prog_1_method_29_code
def yX1_owner : MethodName := ⟨RX1, "owner", "(II)I"⟩
def dkwX1_owner_1 : List UInt8 := [27, 28, 184, 0, 180, 51, 172]
abbrev dktX1_owner_1 : List UInt8 := dkwX1_owner_1 ++ []
def dkwX1_owner_0 : List UInt8 := [4, 188, 4, 89, 3, 27, 28, 184, 0, 164, 84, 184, 0, 168, 42, 180, 0, 39, 180, 0, 171, 180, 0, 175]
abbrev dktX1_owner_0 : List UInt8 := dkwX1_owner_0 ++ dktX1_owner_1
theorem dksX1_owner_0 : cX1_owner.data.toList.drop 0 = dktX1_owner_0 := by decide +kernel
theorem dksX1_owner_1 : cX1_owner.data.toList.drop 24 = dktX1_owner_1 := dk_seg dksX1_owner_0 24 rfl rfl
theorem dX1_owner_0 : decode cX1_owner 0 = .ok (.iconst 1, 1) := dk_4 (dk_at dksX1_owner_0 0 rfl rfl)
theorem dX1_owner_1 : decode cX1_owner 1 = .ok (.newarray .boolean, 2) := dk_188_4 (dk_at dksX1_owner_0 1 rfl rfl)
theorem dX1_owner_3 : decode cX1_owner 3 = .ok (.dup, 1) := dk_89 (dk_at dksX1_owner_0 3 rfl rfl)
theorem dX1_owner_4 : decode cX1_owner 4 = .ok (.iconst 0, 1) := dk_3 (dk_at dksX1_owner_0 4 rfl rfl)
theorem dX1_owner_5 : decode cX1_owner 5 = .ok (.iload_n 1, 1) := dk_27 (dk_at dksX1_owner_0 5 rfl rfl)
theorem dX1_owner_6 : decode cX1_owner 6 = .ok (.iload_n 2, 1) := dk_28 (dk_at dksX1_owner_0 6 rfl rfl)
theorem dX1_owner_7 : decode cX1_owner 7 = .ok (.invokestatic 164, 3) := dk_184 0 164 (dk_at dksX1_owner_0 7 rfl rfl)
theorem dX1_owner_10 : decode cX1_owner 10 = .ok (.bastore, 1) := dk_84 (dk_at dksX1_owner_0 10 rfl rfl)
theorem dX1_owner_11 : decode cX1_owner 11 = .ok (.invokestatic 168, 3) := dk_184 0 168 (dk_at dksX1_owner_0 11 rfl rfl)
theorem dX1_owner_14 : decode cX1_owner 14 = .ok (.aload_n 0, 1) := dk_42 (dk_at dksX1_owner_0 14 rfl rfl)
theorem dX1_owner_15 : decode cX1_owner 15 = .ok (.getfield 39, 3) := dk_180 0 39 (dk_at dksX1_owner_0 15 rfl rfl)
theorem dX1_owner_18 : decode cX1_owner 18 = .ok (.getfield 171, 3) := dk_180 0 171 (dk_at dksX1_owner_0 18 rfl rfl)
theorem dX1_owner_21 : decode cX1_owner 21 = .ok (.getfield 175, 3) := dk_180 0 175 (dk_at dksX1_owner_0 21 rfl rfl)
theorem dX1_owner_24 : decode cX1_owner 24 = .ok (.iload_n 1, 1) := dk_27 (dk_at dksX1_owner_1 0 rfl rfl)
theorem dX1_owner_25 : decode cX1_owner 25 = .ok (.iload_n 2, 1) := dk_28 (dk_at dksX1_owner_1 1 rfl rfl)
theorem dX1_owner_26 : decode cX1_owner 26 = .ok (.invokestatic 180, 3) := dk_184 0 180 (dk_at dksX1_owner_1 2 rfl rfl)
theorem dX1_owner_29 : decode cX1_owner 29 = .ok (.baload, 1) := dk_51 (dk_at dksX1_owner_1 5 rfl rfl)
theorem dX1_owner_30 : decode cX1_owner 30 = .ok (.ireturn, 1) := dk_172 (dk_at dksX1_owner_1 6 rfl rfl)
abbrev cX1_area : ByteArray := prog_1_method_30_code
def yX1_area : MethodName := ⟨RX1, "area", "(I)I"⟩
def dkwX1_area_1 : List UInt8 := [182, 0, 183, 172]
abbrev dktX1_area_1 : List UInt8 := dkwX1_area_1 ++ []
def dkwX1_area_0 : List UInt8 := [4, 188, 4, 89, 3, 42, 27, 182, 0, 88, 84, 184, 0, 92, 42, 180, 0, 39, 180, 0, 171, 27]
abbrev dktX1_area_0 : List UInt8 := dkwX1_area_0 ++ dktX1_area_1
theorem dksX1_area_0 : cX1_area.data.toList.drop 0 = dktX1_area_0 := by decide +kernel
theorem dksX1_area_1 : cX1_area.data.toList.drop 22 = dktX1_area_1 := dk_seg dksX1_area_0 22 rfl rfl
theorem dX1_area_0 : decode cX1_area 0 = .ok (.iconst 1, 1) := dk_4 (dk_at dksX1_area_0 0 rfl rfl)
theorem dX1_area_1 : decode cX1_area 1 = .ok (.newarray .boolean, 2) := dk_188_4 (dk_at dksX1_area_0 1 rfl rfl)
theorem dX1_area_3 : decode cX1_area 3 = .ok (.dup, 1) := dk_89 (dk_at dksX1_area_0 3 rfl rfl)
theorem dX1_area_4 : decode cX1_area 4 = .ok (.iconst 0, 1) := dk_3 (dk_at dksX1_area_0 4 rfl rfl)
theorem dX1_area_5 : decode cX1_area 5 = .ok (.aload_n 0, 1) := dk_42 (dk_at dksX1_area_0 5 rfl rfl)
theorem dX1_area_6 : decode cX1_area 6 = .ok (.iload_n 1, 1) := dk_27 (dk_at dksX1_area_0 6 rfl rfl)
theorem dX1_area_7 : decode cX1_area 7 = .ok (.invokevirtual 88, 3) := dk_182 0 88 (dk_at dksX1_area_0 7 rfl rfl)
theorem dX1_area_10 : decode cX1_area 10 = .ok (.bastore, 1) := dk_84 (dk_at dksX1_area_0 10 rfl rfl)
theorem dX1_area_11 : decode cX1_area 11 = .ok (.invokestatic 92, 3) := dk_184 0 92 (dk_at dksX1_area_0 11 rfl rfl)
theorem dX1_area_14 : decode cX1_area 14 = .ok (.aload_n 0, 1) := dk_42 (dk_at dksX1_area_0 14 rfl rfl)
theorem dX1_area_15 : decode cX1_area 15 = .ok (.getfield 39, 3) := dk_180 0 39 (dk_at dksX1_area_0 15 rfl rfl)
theorem dX1_area_18 : decode cX1_area 18 = .ok (.getfield 171, 3) := dk_180 0 171 (dk_at dksX1_area_0 18 rfl rfl)
theorem dX1_area_21 : decode cX1_area 21 = .ok (.iload_n 1, 1) := dk_27 (dk_at dksX1_area_0 21 rfl rfl)
theorem dX1_area_22 : decode cX1_area 22 = .ok (.invokevirtual 183, 3) := dk_182 0 183 (dk_at dksX1_area_1 0 rfl rfl)
theorem dX1_area_25 : decode cX1_area 25 = .ok (.ireturn, 1) := dk_172 (dk_at dksX1_area_1 3 rfl rfl)
abbrev cX1_perimeter : ByteArray := prog_1_method_31_code
def yX1_perimeter : MethodName := ⟨RX1, "perimeter", "(I)I"⟩
def dkwX1_perimeter_1 : List UInt8 := [182, 0, 186, 172]
abbrev dktX1_perimeter_1 : List UInt8 := dkwX1_perimeter_1 ++ []
def dkwX1_perimeter_0 : List UInt8 := [4, 188, 4, 89, 3, 42, 27, 182, 0, 88, 84, 184, 0, 92, 42, 180, 0, 39, 180, 0, 171, 27]
abbrev dktX1_perimeter_0 : List UInt8 := dkwX1_perimeter_0 ++ dktX1_perimeter_1
theorem dksX1_perimeter_0 : cX1_perimeter.data.toList.drop 0 = dktX1_perimeter_0 := by decide +kernel
theorem dksX1_perimeter_1 : cX1_perimeter.data.toList.drop 22 = dktX1_perimeter_1 := dk_seg dksX1_perimeter_0 22 rfl rfl
theorem dX1_perimeter_0 : decode cX1_perimeter 0 = .ok (.iconst 1, 1) := dk_4 (dk_at dksX1_perimeter_0 0 rfl rfl)
theorem dX1_perimeter_1 : decode cX1_perimeter 1 = .ok (.newarray .boolean, 2) := dk_188_4 (dk_at dksX1_perimeter_0 1 rfl rfl)
theorem dX1_perimeter_3 : decode cX1_perimeter 3 = .ok (.dup, 1) := dk_89 (dk_at dksX1_perimeter_0 3 rfl rfl)
theorem dX1_perimeter_4 : decode cX1_perimeter 4 = .ok (.iconst 0, 1) := dk_3 (dk_at dksX1_perimeter_0 4 rfl rfl)
theorem dX1_perimeter_5 : decode cX1_perimeter 5 = .ok (.aload_n 0, 1) := dk_42 (dk_at dksX1_perimeter_0 5 rfl rfl)
theorem dX1_perimeter_6 : decode cX1_perimeter 6 = .ok (.iload_n 1, 1) := dk_27 (dk_at dksX1_perimeter_0 6 rfl rfl)
theorem dX1_perimeter_7 : decode cX1_perimeter 7 = .ok (.invokevirtual 88, 3) := dk_182 0 88 (dk_at dksX1_perimeter_0 7 rfl rfl)
theorem dX1_perimeter_10 : decode cX1_perimeter 10 = .ok (.bastore, 1) := dk_84 (dk_at dksX1_perimeter_0 10 rfl rfl)
theorem dX1_perimeter_11 : decode cX1_perimeter 11 = .ok (.invokestatic 92, 3) := dk_184 0 92 (dk_at dksX1_perimeter_0 11 rfl rfl)
theorem dX1_perimeter_14 : decode cX1_perimeter 14 = .ok (.aload_n 0, 1) := dk_42 (dk_at dksX1_perimeter_0 14 rfl rfl)
theorem dX1_perimeter_15 : decode cX1_perimeter 15 = .ok (.getfield 39, 3) := dk_180 0 39 (dk_at dksX1_perimeter_0 15 rfl rfl)
theorem dX1_perimeter_18 : decode cX1_perimeter 18 = .ok (.getfield 171, 3) := dk_180 0 171 (dk_at dksX1_perimeter_0 18 rfl rfl)
theorem dX1_perimeter_21 : decode cX1_perimeter 21 = .ok (.iload_n 1, 1) := dk_27 (dk_at dksX1_perimeter_0 21 rfl rfl)
theorem dX1_perimeter_22 : decode cX1_perimeter 22 = .ok (.invokevirtual 186, 3) := dk_182 0 186 (dk_at dksX1_perimeter_1 0 rfl rfl)
theorem dX1_perimeter_25 : decode cX1_perimeter 25 = .ok (.ireturn, 1) := dk_172 (dk_at dksX1_perimeter_1 3 rfl rfl)
abbrev cX1_border : ByteArray := prog_1_method_32_code
def yX1_border : MethodName := ⟨RX1, "border", "(II)I"⟩
def dkwX1_border_1 : List UInt8 := [160, 0, 7, 3, 167, 0, 15, 42, 180, 0, 39, 180, 0, 171, 27, 28, 182, 0, 189, 172]
abbrev dktX1_border_1 : List UInt8 := dkwX1_border_1 ++ []
def dkwX1_border_0 : List UInt8 := [5, 188, 4, 89, 3, 42, 27, 182, 0, 88, 84, 89, 4, 42, 28, 182, 0, 88, 84, 184, 0, 92, 27, 28]
abbrev dktX1_border_0 : List UInt8 := dkwX1_border_0 ++ dktX1_border_1
theorem dksX1_border_0 : cX1_border.data.toList.drop 0 = dktX1_border_0 := by decide +kernel
theorem dksX1_border_1 : cX1_border.data.toList.drop 24 = dktX1_border_1 := dk_seg dksX1_border_0 24 rfl rfl
theorem dX1_border_0 : decode cX1_border 0 = .ok (.iconst 2, 1) := dk_5 (dk_at dksX1_border_0 0 rfl rfl)
theorem dX1_border_1 : decode cX1_border 1 = .ok (.newarray .boolean, 2) := dk_188_4 (dk_at dksX1_border_0 1 rfl rfl)
theorem dX1_border_3 : decode cX1_border 3 = .ok (.dup, 1) := dk_89 (dk_at dksX1_border_0 3 rfl rfl)
theorem dX1_border_4 : decode cX1_border 4 = .ok (.iconst 0, 1) := dk_3 (dk_at dksX1_border_0 4 rfl rfl)
theorem dX1_border_5 : decode cX1_border 5 = .ok (.aload_n 0, 1) := dk_42 (dk_at dksX1_border_0 5 rfl rfl)
theorem dX1_border_6 : decode cX1_border 6 = .ok (.iload_n 1, 1) := dk_27 (dk_at dksX1_border_0 6 rfl rfl)
theorem dX1_border_7 : decode cX1_border 7 = .ok (.invokevirtual 88, 3) := dk_182 0 88 (dk_at dksX1_border_0 7 rfl rfl)
theorem dX1_border_10 : decode cX1_border 10 = .ok (.bastore, 1) := dk_84 (dk_at dksX1_border_0 10 rfl rfl)
theorem dX1_border_11 : decode cX1_border 11 = .ok (.dup, 1) := dk_89 (dk_at dksX1_border_0 11 rfl rfl)
theorem dX1_border_12 : decode cX1_border 12 = .ok (.iconst 1, 1) := dk_4 (dk_at dksX1_border_0 12 rfl rfl)
theorem dX1_border_13 : decode cX1_border 13 = .ok (.aload_n 0, 1) := dk_42 (dk_at dksX1_border_0 13 rfl rfl)
theorem dX1_border_14 : decode cX1_border 14 = .ok (.iload_n 2, 1) := dk_28 (dk_at dksX1_border_0 14 rfl rfl)
theorem dX1_border_15 : decode cX1_border 15 = .ok (.invokevirtual 88, 3) := dk_182 0 88 (dk_at dksX1_border_0 15 rfl rfl)
theorem dX1_border_18 : decode cX1_border 18 = .ok (.bastore, 1) := dk_84 (dk_at dksX1_border_0 18 rfl rfl)
theorem dX1_border_19 : decode cX1_border 19 = .ok (.invokestatic 92, 3) := dk_184 0 92 (dk_at dksX1_border_0 19 rfl rfl)
theorem dX1_border_22 : decode cX1_border 22 = .ok (.iload_n 1, 1) := dk_27 (dk_at dksX1_border_0 22 rfl rfl)
theorem dX1_border_23 : decode cX1_border 23 = .ok (.iload_n 2, 1) := dk_28 (dk_at dksX1_border_0 23 rfl rfl)
theorem dX1_border_24 : decode cX1_border 24 = .ok (.if_icmp .ne 7, 3) := dk_160 0 7 (dk_at dksX1_border_1 0 rfl rfl)
theorem dX1_border_27 : decode cX1_border 27 = .ok (.iconst 0, 1) := dk_3 (dk_at dksX1_border_1 3 rfl rfl)
theorem dX1_border_28 : decode cX1_border 28 = .ok (.goto 15, 3) := dk_167 0 15 (dk_at dksX1_border_1 4 rfl rfl)
theorem dX1_border_31 : decode cX1_border 31 = .ok (.aload_n 0, 1) := dk_42 (dk_at dksX1_border_1 7 rfl rfl)
theorem dX1_border_32 : decode cX1_border 32 = .ok (.getfield 39, 3) := dk_180 0 39 (dk_at dksX1_border_1 8 rfl rfl)
theorem dX1_border_35 : decode cX1_border 35 = .ok (.getfield 171, 3) := dk_180 0 171 (dk_at dksX1_border_1 11 rfl rfl)
theorem dX1_border_38 : decode cX1_border 38 = .ok (.iload_n 1, 1) := dk_27 (dk_at dksX1_border_1 14 rfl rfl)
theorem dX1_border_39 : decode cX1_border 39 = .ok (.iload_n 2, 1) := dk_28 (dk_at dksX1_border_1 15 rfl rfl)
theorem dX1_border_40 : decode cX1_border 40 = .ok (.invokevirtual 189, 3) := dk_182 0 189 (dk_at dksX1_border_1 16 rfl rfl)
theorem dX1_border_43 : decode cX1_border 43 = .ok (.ireturn, 1) := dk_172 (dk_at dksX1_border_1 19 rfl rfl)
abbrev cX1_isConnected : ByteArray := prog_1_method_33_code
def yX1_isConnected : MethodName := ⟨RX1, "isConnected", "(I)Z"⟩
def dkwX1_isConnected_1 : List UInt8 := [182, 0, 192, 172]
abbrev dktX1_isConnected_1 : List UInt8 := dkwX1_isConnected_1 ++ []
def dkwX1_isConnected_0 : List UInt8 := [4, 188, 4, 89, 3, 42, 27, 182, 0, 88, 84, 184, 0, 92, 42, 180, 0, 39, 180, 0, 171, 27]
abbrev dktX1_isConnected_0 : List UInt8 := dkwX1_isConnected_0 ++ dktX1_isConnected_1
theorem dksX1_isConnected_0 : cX1_isConnected.data.toList.drop 0 = dktX1_isConnected_0 := by decide +kernel
theorem dksX1_isConnected_1 : cX1_isConnected.data.toList.drop 22 = dktX1_isConnected_1 := dk_seg dksX1_isConnected_0 22 rfl rfl
theorem dX1_isConnected_0 : decode cX1_isConnected 0 = .ok (.iconst 1, 1) := dk_4 (dk_at dksX1_isConnected_0 0 rfl rfl)
theorem dX1_isConnected_1 : decode cX1_isConnected 1 = .ok (.newarray .boolean, 2) := dk_188_4 (dk_at dksX1_isConnected_0 1 rfl rfl)
theorem dX1_isConnected_3 : decode cX1_isConnected 3 = .ok (.dup, 1) := dk_89 (dk_at dksX1_isConnected_0 3 rfl rfl)
theorem dX1_isConnected_4 : decode cX1_isConnected 4 = .ok (.iconst 0, 1) := dk_3 (dk_at dksX1_isConnected_0 4 rfl rfl)
theorem dX1_isConnected_5 : decode cX1_isConnected 5 = .ok (.aload_n 0, 1) := dk_42 (dk_at dksX1_isConnected_0 5 rfl rfl)
theorem dX1_isConnected_6 : decode cX1_isConnected 6 = .ok (.iload_n 1, 1) := dk_27 (dk_at dksX1_isConnected_0 6 rfl rfl)
theorem dX1_isConnected_7 : decode cX1_isConnected 7 = .ok (.invokevirtual 88, 3) := dk_182 0 88 (dk_at dksX1_isConnected_0 7 rfl rfl)
theorem dX1_isConnected_10 : decode cX1_isConnected 10 = .ok (.bastore, 1) := dk_84 (dk_at dksX1_isConnected_0 10 rfl rfl)
theorem dX1_isConnected_11 : decode cX1_isConnected 11 = .ok (.invokestatic 92, 3) := dk_184 0 92 (dk_at dksX1_isConnected_0 11 rfl rfl)
theorem dX1_isConnected_14 : decode cX1_isConnected 14 = .ok (.aload_n 0, 1) := dk_42 (dk_at dksX1_isConnected_0 14 rfl rfl)
theorem dX1_isConnected_15 : decode cX1_isConnected 15 = .ok (.getfield 39, 3) := dk_180 0 39 (dk_at dksX1_isConnected_0 15 rfl rfl)
theorem dX1_isConnected_18 : decode cX1_isConnected 18 = .ok (.getfield 171, 3) := dk_180 0 171 (dk_at dksX1_isConnected_0 18 rfl rfl)
theorem dX1_isConnected_21 : decode cX1_isConnected 21 = .ok (.iload_n 1, 1) := dk_27 (dk_at dksX1_isConnected_0 21 rfl rfl)
theorem dX1_isConnected_22 : decode cX1_isConnected 22 = .ok (.invokevirtual 192, 3) := dk_182 0 192 (dk_at dksX1_isConnected_1 0 rfl rfl)
theorem dX1_isConnected_25 : decode cX1_isConnected 25 = .ok (.ireturn, 1) := dk_172 (dk_at dksX1_isConnected_1 3 rfl rfl)
abbrev cX1_distance : ByteArray := prog_1_method_34_code
def yX1_distance : MethodName := ⟨RX1, "distance", "(III)I"⟩
def dkwX1_distance_1 : List UInt8 := [84, 184, 0, 168, 42, 180, 0, 39, 180, 0, 171, 27, 28, 29, 184, 0, 180, 182, 0, 195, 172]
abbrev dktX1_distance_1 : List UInt8 := dkwX1_distance_1 ++ []
def dkwX1_distance_0 : List UInt8 := [4, 188, 4, 89, 3, 42, 27, 182, 0, 88, 84, 184, 0, 92, 4, 188, 4, 89, 3, 28, 29, 184, 0, 164]
abbrev dktX1_distance_0 : List UInt8 := dkwX1_distance_0 ++ dktX1_distance_1
theorem dksX1_distance_0 : cX1_distance.data.toList.drop 0 = dktX1_distance_0 := by decide +kernel
theorem dksX1_distance_1 : cX1_distance.data.toList.drop 24 = dktX1_distance_1 := dk_seg dksX1_distance_0 24 rfl rfl
theorem dX1_distance_0 : decode cX1_distance 0 = .ok (.iconst 1, 1) := dk_4 (dk_at dksX1_distance_0 0 rfl rfl)
theorem dX1_distance_1 : decode cX1_distance 1 = .ok (.newarray .boolean, 2) := dk_188_4 (dk_at dksX1_distance_0 1 rfl rfl)
theorem dX1_distance_3 : decode cX1_distance 3 = .ok (.dup, 1) := dk_89 (dk_at dksX1_distance_0 3 rfl rfl)
theorem dX1_distance_4 : decode cX1_distance 4 = .ok (.iconst 0, 1) := dk_3 (dk_at dksX1_distance_0 4 rfl rfl)
theorem dX1_distance_5 : decode cX1_distance 5 = .ok (.aload_n 0, 1) := dk_42 (dk_at dksX1_distance_0 5 rfl rfl)
theorem dX1_distance_6 : decode cX1_distance 6 = .ok (.iload_n 1, 1) := dk_27 (dk_at dksX1_distance_0 6 rfl rfl)
theorem dX1_distance_7 : decode cX1_distance 7 = .ok (.invokevirtual 88, 3) := dk_182 0 88 (dk_at dksX1_distance_0 7 rfl rfl)
theorem dX1_distance_10 : decode cX1_distance 10 = .ok (.bastore, 1) := dk_84 (dk_at dksX1_distance_0 10 rfl rfl)
theorem dX1_distance_11 : decode cX1_distance 11 = .ok (.invokestatic 92, 3) := dk_184 0 92 (dk_at dksX1_distance_0 11 rfl rfl)
theorem dX1_distance_14 : decode cX1_distance 14 = .ok (.iconst 1, 1) := dk_4 (dk_at dksX1_distance_0 14 rfl rfl)
theorem dX1_distance_15 : decode cX1_distance 15 = .ok (.newarray .boolean, 2) := dk_188_4 (dk_at dksX1_distance_0 15 rfl rfl)
theorem dX1_distance_17 : decode cX1_distance 17 = .ok (.dup, 1) := dk_89 (dk_at dksX1_distance_0 17 rfl rfl)
theorem dX1_distance_18 : decode cX1_distance 18 = .ok (.iconst 0, 1) := dk_3 (dk_at dksX1_distance_0 18 rfl rfl)
theorem dX1_distance_19 : decode cX1_distance 19 = .ok (.iload_n 2, 1) := dk_28 (dk_at dksX1_distance_0 19 rfl rfl)
theorem dX1_distance_20 : decode cX1_distance 20 = .ok (.iload_n 3, 1) := dk_29 (dk_at dksX1_distance_0 20 rfl rfl)
theorem dX1_distance_21 : decode cX1_distance 21 = .ok (.invokestatic 164, 3) := dk_184 0 164 (dk_at dksX1_distance_0 21 rfl rfl)
theorem dX1_distance_24 : decode cX1_distance 24 = .ok (.bastore, 1) := dk_84 (dk_at dksX1_distance_1 0 rfl rfl)
theorem dX1_distance_25 : decode cX1_distance 25 = .ok (.invokestatic 168, 3) := dk_184 0 168 (dk_at dksX1_distance_1 1 rfl rfl)
theorem dX1_distance_28 : decode cX1_distance 28 = .ok (.aload_n 0, 1) := dk_42 (dk_at dksX1_distance_1 4 rfl rfl)
theorem dX1_distance_29 : decode cX1_distance 29 = .ok (.getfield 39, 3) := dk_180 0 39 (dk_at dksX1_distance_1 5 rfl rfl)
theorem dX1_distance_32 : decode cX1_distance 32 = .ok (.getfield 171, 3) := dk_180 0 171 (dk_at dksX1_distance_1 8 rfl rfl)
theorem dX1_distance_35 : decode cX1_distance 35 = .ok (.iload_n 1, 1) := dk_27 (dk_at dksX1_distance_1 11 rfl rfl)
theorem dX1_distance_36 : decode cX1_distance 36 = .ok (.iload_n 2, 1) := dk_28 (dk_at dksX1_distance_1 12 rfl rfl)
theorem dX1_distance_37 : decode cX1_distance 37 = .ok (.iload_n 3, 1) := dk_29 (dk_at dksX1_distance_1 13 rfl rfl)
theorem dX1_distance_38 : decode cX1_distance 38 = .ok (.invokestatic 180, 3) := dk_184 0 180 (dk_at dksX1_distance_1 14 rfl rfl)
theorem dX1_distance_41 : decode cX1_distance 41 = .ok (.invokevirtual 195, 3) := dk_182 0 195 (dk_at dksX1_distance_1 17 rfl rfl)
theorem dX1_distance_44 : decode cX1_distance 44 = .ok (.ireturn, 1) := dk_172 (dk_at dksX1_distance_1 20 rfl rfl)
abbrev cX1_distance_2 : ByteArray := prog_1_method_7_code
def yX1_distance_2 : MethodName := ⟨RX1, "distance", "(II)I"⟩
def dkwX1_distance_2_1 : List UInt8 := [96, 172]
abbrev dktX1_distance_2_1 : List UInt8 := dkwX1_distance_2_1 ++ []
def dkwX1_distance_2_0 : List UInt8 := [26, 184, 0, 12, 27, 184, 0, 12, 100, 184, 0, 16, 26, 184, 0, 21, 27, 184, 0, 21, 100, 184, 0, 16]
abbrev dktX1_distance_2_0 : List UInt8 := dkwX1_distance_2_0 ++ dktX1_distance_2_1
theorem dksX1_distance_2_0 : cX1_distance_2.data.toList.drop 0 = dktX1_distance_2_0 := by decide +kernel
theorem dksX1_distance_2_1 : cX1_distance_2.data.toList.drop 24 = dktX1_distance_2_1 := dk_seg dksX1_distance_2_0 24 rfl rfl
theorem dX1_distance_2_0 : decode cX1_distance_2 0 = .ok (.iload_n 0, 1) := dk_26 (dk_at dksX1_distance_2_0 0 rfl rfl)
theorem dX1_distance_2_1 : decode cX1_distance_2 1 = .ok (.invokestatic 12, 3) := dk_184 0 12 (dk_at dksX1_distance_2_0 1 rfl rfl)
theorem dX1_distance_2_4 : decode cX1_distance_2 4 = .ok (.iload_n 1, 1) := dk_27 (dk_at dksX1_distance_2_0 4 rfl rfl)
theorem dX1_distance_2_5 : decode cX1_distance_2 5 = .ok (.invokestatic 12, 3) := dk_184 0 12 (dk_at dksX1_distance_2_0 5 rfl rfl)
theorem dX1_distance_2_8 : decode cX1_distance_2 8 = .ok (.isub, 1) := dk_100 (dk_at dksX1_distance_2_0 8 rfl rfl)
theorem dX1_distance_2_9 : decode cX1_distance_2 9 = .ok (.invokestatic 16, 3) := dk_184 0 16 (dk_at dksX1_distance_2_0 9 rfl rfl)
theorem dX1_distance_2_12 : decode cX1_distance_2 12 = .ok (.iload_n 0, 1) := dk_26 (dk_at dksX1_distance_2_0 12 rfl rfl)
theorem dX1_distance_2_13 : decode cX1_distance_2 13 = .ok (.invokestatic 21, 3) := dk_184 0 21 (dk_at dksX1_distance_2_0 13 rfl rfl)
theorem dX1_distance_2_16 : decode cX1_distance_2 16 = .ok (.iload_n 1, 1) := dk_27 (dk_at dksX1_distance_2_0 16 rfl rfl)
theorem dX1_distance_2_17 : decode cX1_distance_2 17 = .ok (.invokestatic 21, 3) := dk_184 0 21 (dk_at dksX1_distance_2_0 17 rfl rfl)
theorem dX1_distance_2_20 : decode cX1_distance_2 20 = .ok (.isub, 1) := dk_100 (dk_at dksX1_distance_2_0 20 rfl rfl)
theorem dX1_distance_2_21 : decode cX1_distance_2 21 = .ok (.invokestatic 16, 3) := dk_184 0 16 (dk_at dksX1_distance_2_0 21 rfl rfl)
theorem dX1_distance_2_24 : decode cX1_distance_2 24 = .ok (.iadd, 1) := dk_96 (dk_at dksX1_distance_2_1 0 rfl rfl)
theorem dX1_distance_2_25 : decode cX1_distance_2 25 = .ok (.ireturn, 1) := dk_172 (dk_at dksX1_distance_2_1 1 rfl rfl)
abbrev cX1_cede : ByteArray := prog_1_method_36_code
def yX1_cede : MethodName := ⟨RX1, "cede", "(IIIIII)I"⟩
def dkwX1_cede_8 : List UInt8 := [180, 0, 171, 180, 0, 175, 3, 17, 3, 132, 184, 0, 212, 21, 9, 172]
abbrev dktX1_cede_8 : List UInt8 := dkwX1_cede_8 ++ []
def dkwX1_cede_7 : List UInt8 := [182, 0, 192, 154, 0, 7, 16, 254, 54, 9, 21, 9, 156, 0, 25, 42, 180, 0, 47, 3, 42, 180, 0, 39]
abbrev dktX1_cede_7 : List UInt8 := dkwX1_cede_7 ++ dktX1_cede_8
def dkwX1_cede_6 : List UInt8 := [42, 180, 0, 39, 180, 0, 171, 27, 182, 0, 192, 153, 0, 17, 42, 180, 0, 39, 180, 0, 171, 28]
abbrev dktX1_cede_6 : List UInt8 := dkwX1_cede_6 ++ dktX1_cede_7
def dkwX1_cede_5 : List UInt8 := [187, 0, 199, 89, 29, 21, 4, 21, 5, 21, 6, 183, 0, 218, 182, 0, 221, 54, 9, 21, 9, 158, 0, 35]
abbrev dktX1_cede_5 : List UInt8 := dkwX1_cede_5 ++ dktX1_cede_6
def dkwX1_cede_4 : List UInt8 := [180, 0, 39, 180, 0, 171, 180, 0, 175, 3, 42, 180, 0, 47, 3, 17, 3, 132, 184, 0, 212, 42, 27, 28]
abbrev dktX1_cede_4 : List UInt8 := dkwX1_cede_4 ++ dktX1_cede_5
def dkwX1_cede_3 : List UInt8 := [184, 0, 168, 25, 7, 182, 0, 208, 153, 0, 11, 25, 8, 182, 0, 208, 154, 0, 6, 16, 254, 172, 42]
abbrev dktX1_cede_3 : List UInt8 := dkwX1_cede_3 ++ dktX1_cede_4
def dkwX1_cede_2 : List UInt8 := [20, 0, 206, 184, 0, 84, 84, 89, 6, 21, 6, 133, 21, 4, 4, 96, 133, 20, 0, 206, 184, 0, 84, 84]
abbrev dktX1_cede_2 : List UInt8 := dkwX1_cede_2 ++ dktX1_cede_3
def dkwX1_cede_1 : List UInt8 := [4, 167, 0, 4, 3, 84, 89, 4, 29, 21, 4, 184, 0, 164, 84, 89, 5, 21, 5, 133, 29, 4, 96, 133]
abbrev dktX1_cede_1 : List UInt8 := dkwX1_cede_1 ++ dktX1_cede_2
def dkwX1_cede_0 : List UInt8 := [42, 27, 182, 0, 134, 58, 7, 42, 28, 182, 0, 134, 58, 8, 7, 188, 4, 89, 3, 27, 28, 159, 0, 7]
abbrev dktX1_cede_0 : List UInt8 := dkwX1_cede_0 ++ dktX1_cede_1
theorem dksX1_cede_0 : cX1_cede.data.toList.drop 0 = dktX1_cede_0 := by decide +kernel
theorem dksX1_cede_1 : cX1_cede.data.toList.drop 24 = dktX1_cede_1 := dk_seg dksX1_cede_0 24 rfl rfl
theorem dksX1_cede_2 : cX1_cede.data.toList.drop 48 = dktX1_cede_2 := dk_seg dksX1_cede_1 24 rfl rfl
theorem dksX1_cede_3 : cX1_cede.data.toList.drop 72 = dktX1_cede_3 := dk_seg dksX1_cede_2 24 rfl rfl
theorem dksX1_cede_4 : cX1_cede.data.toList.drop 95 = dktX1_cede_4 := dk_seg dksX1_cede_3 23 rfl rfl
theorem dksX1_cede_5 : cX1_cede.data.toList.drop 119 = dktX1_cede_5 := dk_seg dksX1_cede_4 24 rfl rfl
theorem dksX1_cede_6 : cX1_cede.data.toList.drop 143 = dktX1_cede_6 := dk_seg dksX1_cede_5 24 rfl rfl
theorem dksX1_cede_7 : cX1_cede.data.toList.drop 165 = dktX1_cede_7 := dk_seg dksX1_cede_6 22 rfl rfl
theorem dksX1_cede_8 : cX1_cede.data.toList.drop 189 = dktX1_cede_8 := dk_seg dksX1_cede_7 24 rfl rfl
theorem dX1_cede_0 : decode cX1_cede 0 = .ok (.aload_n 0, 1) := dk_42 (dk_at dksX1_cede_0 0 rfl rfl)
theorem dX1_cede_1 : decode cX1_cede 1 = .ok (.iload_n 1, 1) := dk_27 (dk_at dksX1_cede_0 1 rfl rfl)
theorem dX1_cede_2 : decode cX1_cede 2 = .ok (.invokevirtual 134, 3) := dk_182 0 134 (dk_at dksX1_cede_0 2 rfl rfl)
theorem dX1_cede_5 : decode cX1_cede 5 = .ok (.astore 7, 2) := dk_58 7 (dk_at dksX1_cede_0 5 rfl rfl)
theorem dX1_cede_7 : decode cX1_cede 7 = .ok (.aload_n 0, 1) := dk_42 (dk_at dksX1_cede_0 7 rfl rfl)
theorem dX1_cede_8 : decode cX1_cede 8 = .ok (.iload_n 2, 1) := dk_28 (dk_at dksX1_cede_0 8 rfl rfl)
theorem dX1_cede_9 : decode cX1_cede 9 = .ok (.invokevirtual 134, 3) := dk_182 0 134 (dk_at dksX1_cede_0 9 rfl rfl)
theorem dX1_cede_12 : decode cX1_cede 12 = .ok (.astore 8, 2) := dk_58 8 (dk_at dksX1_cede_0 12 rfl rfl)
theorem dX1_cede_14 : decode cX1_cede 14 = .ok (.iconst 4, 1) := dk_7 (dk_at dksX1_cede_0 14 rfl rfl)
theorem dX1_cede_15 : decode cX1_cede 15 = .ok (.newarray .boolean, 2) := dk_188_4 (dk_at dksX1_cede_0 15 rfl rfl)
theorem dX1_cede_17 : decode cX1_cede 17 = .ok (.dup, 1) := dk_89 (dk_at dksX1_cede_0 17 rfl rfl)
theorem dX1_cede_18 : decode cX1_cede 18 = .ok (.iconst 0, 1) := dk_3 (dk_at dksX1_cede_0 18 rfl rfl)
theorem dX1_cede_19 : decode cX1_cede 19 = .ok (.iload_n 1, 1) := dk_27 (dk_at dksX1_cede_0 19 rfl rfl)
theorem dX1_cede_20 : decode cX1_cede 20 = .ok (.iload_n 2, 1) := dk_28 (dk_at dksX1_cede_0 20 rfl rfl)
theorem dX1_cede_21 : decode cX1_cede 21 = .ok (.if_icmp .eq 7, 3) := dk_159 0 7 (dk_at dksX1_cede_0 21 rfl rfl)
theorem dX1_cede_24 : decode cX1_cede 24 = .ok (.iconst 1, 1) := dk_4 (dk_at dksX1_cede_1 0 rfl rfl)
theorem dX1_cede_25 : decode cX1_cede 25 = .ok (.goto 4, 3) := dk_167 0 4 (dk_at dksX1_cede_1 1 rfl rfl)
theorem dX1_cede_28 : decode cX1_cede 28 = .ok (.iconst 0, 1) := dk_3 (dk_at dksX1_cede_1 4 rfl rfl)
theorem dX1_cede_29 : decode cX1_cede 29 = .ok (.bastore, 1) := dk_84 (dk_at dksX1_cede_1 5 rfl rfl)
theorem dX1_cede_30 : decode cX1_cede 30 = .ok (.dup, 1) := dk_89 (dk_at dksX1_cede_1 6 rfl rfl)
theorem dX1_cede_31 : decode cX1_cede 31 = .ok (.iconst 1, 1) := dk_4 (dk_at dksX1_cede_1 7 rfl rfl)
theorem dX1_cede_32 : decode cX1_cede 32 = .ok (.iload_n 3, 1) := dk_29 (dk_at dksX1_cede_1 8 rfl rfl)
theorem dX1_cede_33 : decode cX1_cede 33 = .ok (.iload 4, 2) := dk_21 4 (dk_at dksX1_cede_1 9 rfl rfl)
theorem dX1_cede_35 : decode cX1_cede 35 = .ok (.invokestatic 164, 3) := dk_184 0 164 (dk_at dksX1_cede_1 11 rfl rfl)
theorem dX1_cede_38 : decode cX1_cede 38 = .ok (.bastore, 1) := dk_84 (dk_at dksX1_cede_1 14 rfl rfl)
theorem dX1_cede_39 : decode cX1_cede 39 = .ok (.dup, 1) := dk_89 (dk_at dksX1_cede_1 15 rfl rfl)
theorem dX1_cede_40 : decode cX1_cede 40 = .ok (.iconst 2, 1) := dk_5 (dk_at dksX1_cede_1 16 rfl rfl)
theorem dX1_cede_41 : decode cX1_cede 41 = .ok (.iload 5, 2) := dk_21 5 (dk_at dksX1_cede_1 17 rfl rfl)
theorem dX1_cede_43 : decode cX1_cede 43 = .ok (.i2l, 1) := dk_133 (dk_at dksX1_cede_1 19 rfl rfl)
theorem dX1_cede_44 : decode cX1_cede 44 = .ok (.iload_n 3, 1) := dk_29 (dk_at dksX1_cede_1 20 rfl rfl)
theorem dX1_cede_45 : decode cX1_cede 45 = .ok (.iconst 1, 1) := dk_4 (dk_at dksX1_cede_1 21 rfl rfl)
theorem dX1_cede_46 : decode cX1_cede 46 = .ok (.iadd, 1) := dk_96 (dk_at dksX1_cede_1 22 rfl rfl)
theorem dX1_cede_47 : decode cX1_cede 47 = .ok (.i2l, 1) := dk_133 (dk_at dksX1_cede_1 23 rfl rfl)
theorem dX1_cede_48 : decode cX1_cede 48 = .ok (.ldc2_w 206, 3) := dk_20 0 206 (dk_at dksX1_cede_2 0 rfl rfl)
theorem dX1_cede_51 : decode cX1_cede 51 = .ok (.invokestatic 84, 3) := dk_184 0 84 (dk_at dksX1_cede_2 3 rfl rfl)
theorem dX1_cede_54 : decode cX1_cede 54 = .ok (.bastore, 1) := dk_84 (dk_at dksX1_cede_2 6 rfl rfl)
theorem dX1_cede_55 : decode cX1_cede 55 = .ok (.dup, 1) := dk_89 (dk_at dksX1_cede_2 7 rfl rfl)
theorem dX1_cede_56 : decode cX1_cede 56 = .ok (.iconst 3, 1) := dk_6 (dk_at dksX1_cede_2 8 rfl rfl)
theorem dX1_cede_57 : decode cX1_cede 57 = .ok (.iload 6, 2) := dk_21 6 (dk_at dksX1_cede_2 9 rfl rfl)
theorem dX1_cede_59 : decode cX1_cede 59 = .ok (.i2l, 1) := dk_133 (dk_at dksX1_cede_2 11 rfl rfl)
theorem dX1_cede_60 : decode cX1_cede 60 = .ok (.iload 4, 2) := dk_21 4 (dk_at dksX1_cede_2 12 rfl rfl)
theorem dX1_cede_62 : decode cX1_cede 62 = .ok (.iconst 1, 1) := dk_4 (dk_at dksX1_cede_2 14 rfl rfl)
theorem dX1_cede_63 : decode cX1_cede 63 = .ok (.iadd, 1) := dk_96 (dk_at dksX1_cede_2 15 rfl rfl)
theorem dX1_cede_64 : decode cX1_cede 64 = .ok (.i2l, 1) := dk_133 (dk_at dksX1_cede_2 16 rfl rfl)
theorem dX1_cede_65 : decode cX1_cede 65 = .ok (.ldc2_w 206, 3) := dk_20 0 206 (dk_at dksX1_cede_2 17 rfl rfl)
theorem dX1_cede_68 : decode cX1_cede 68 = .ok (.invokestatic 84, 3) := dk_184 0 84 (dk_at dksX1_cede_2 20 rfl rfl)
theorem dX1_cede_71 : decode cX1_cede 71 = .ok (.bastore, 1) := dk_84 (dk_at dksX1_cede_2 23 rfl rfl)
theorem dX1_cede_72 : decode cX1_cede 72 = .ok (.invokestatic 168, 3) := dk_184 0 168 (dk_at dksX1_cede_3 0 rfl rfl)
theorem dX1_cede_75 : decode cX1_cede 75 = .ok (.aload 7, 2) := dk_25 7 (dk_at dksX1_cede_3 3 rfl rfl)
theorem dX1_cede_77 : decode cX1_cede 77 = .ok (.invokevirtual 208, 3) := dk_182 0 208 (dk_at dksX1_cede_3 5 rfl rfl)
theorem dX1_cede_80 : decode cX1_cede 80 = .ok (.ifCond .eq 11, 3) := dk_153 0 11 (dk_at dksX1_cede_3 8 rfl rfl)
theorem dX1_cede_83 : decode cX1_cede 83 = .ok (.aload 8, 2) := dk_25 8 (dk_at dksX1_cede_3 11 rfl rfl)
theorem dX1_cede_85 : decode cX1_cede 85 = .ok (.invokevirtual 208, 3) := dk_182 0 208 (dk_at dksX1_cede_3 13 rfl rfl)
theorem dX1_cede_88 : decode cX1_cede 88 = .ok (.ifCond .ne 6, 3) := dk_154 0 6 (dk_at dksX1_cede_3 16 rfl rfl)
theorem dX1_cede_91 : decode cX1_cede 91 = .ok (.bipush (-2), 2) := dk_16 254 (dk_at dksX1_cede_3 19 rfl rfl)
theorem dX1_cede_93 : decode cX1_cede 93 = .ok (.ireturn, 1) := dk_172 (dk_at dksX1_cede_3 21 rfl rfl)
theorem dX1_cede_94 : decode cX1_cede 94 = .ok (.aload_n 0, 1) := dk_42 (dk_at dksX1_cede_3 22 rfl rfl)
theorem dX1_cede_95 : decode cX1_cede 95 = .ok (.getfield 39, 3) := dk_180 0 39 (dk_at dksX1_cede_4 0 rfl rfl)
theorem dX1_cede_98 : decode cX1_cede 98 = .ok (.getfield 171, 3) := dk_180 0 171 (dk_at dksX1_cede_4 3 rfl rfl)
theorem dX1_cede_101 : decode cX1_cede 101 = .ok (.getfield 175, 3) := dk_180 0 175 (dk_at dksX1_cede_4 6 rfl rfl)
theorem dX1_cede_104 : decode cX1_cede 104 = .ok (.iconst 0, 1) := dk_3 (dk_at dksX1_cede_4 9 rfl rfl)
theorem dX1_cede_105 : decode cX1_cede 105 = .ok (.aload_n 0, 1) := dk_42 (dk_at dksX1_cede_4 10 rfl rfl)
theorem dX1_cede_106 : decode cX1_cede 106 = .ok (.getfield 47, 3) := dk_180 0 47 (dk_at dksX1_cede_4 11 rfl rfl)
theorem dX1_cede_109 : decode cX1_cede 109 = .ok (.iconst 0, 1) := dk_3 (dk_at dksX1_cede_4 14 rfl rfl)
theorem dX1_cede_110 : decode cX1_cede 110 = .ok (.sipush 900, 3) := dk_17 3 132 (dk_at dksX1_cede_4 15 rfl rfl)
theorem dX1_cede_113 : decode cX1_cede 113 = .ok (.invokestatic 212, 3) := dk_184 0 212 (dk_at dksX1_cede_4 18 rfl rfl)
theorem dX1_cede_116 : decode cX1_cede 116 = .ok (.aload_n 0, 1) := dk_42 (dk_at dksX1_cede_4 21 rfl rfl)
theorem dX1_cede_117 : decode cX1_cede 117 = .ok (.iload_n 1, 1) := dk_27 (dk_at dksX1_cede_4 22 rfl rfl)
theorem dX1_cede_118 : decode cX1_cede 118 = .ok (.iload_n 2, 1) := dk_28 (dk_at dksX1_cede_4 23 rfl rfl)
theorem dX1_cede_119 : decode cX1_cede 119 = .ok (.new 199, 3) := dk_187 0 199 (dk_at dksX1_cede_5 0 rfl rfl)
theorem dX1_cede_122 : decode cX1_cede 122 = .ok (.dup, 1) := dk_89 (dk_at dksX1_cede_5 3 rfl rfl)
theorem dX1_cede_123 : decode cX1_cede 123 = .ok (.iload_n 3, 1) := dk_29 (dk_at dksX1_cede_5 4 rfl rfl)
theorem dX1_cede_124 : decode cX1_cede 124 = .ok (.iload 4, 2) := dk_21 4 (dk_at dksX1_cede_5 5 rfl rfl)
theorem dX1_cede_126 : decode cX1_cede 126 = .ok (.iload 5, 2) := dk_21 5 (dk_at dksX1_cede_5 7 rfl rfl)
theorem dX1_cede_128 : decode cX1_cede 128 = .ok (.iload 6, 2) := dk_21 6 (dk_at dksX1_cede_5 9 rfl rfl)
theorem dX1_cede_130 : decode cX1_cede 130 = .ok (.invokespecial 218, 3) := dk_183 0 218 (dk_at dksX1_cede_5 11 rfl rfl)
theorem dX1_cede_133 : decode cX1_cede 133 = .ok (.invokevirtual 221, 3) := dk_182 0 221 (dk_at dksX1_cede_5 14 rfl rfl)
theorem dX1_cede_136 : decode cX1_cede 136 = .ok (.istore 9, 2) := dk_54 9 (dk_at dksX1_cede_5 17 rfl rfl)
theorem dX1_cede_138 : decode cX1_cede 138 = .ok (.iload 9, 2) := dk_21 9 (dk_at dksX1_cede_5 19 rfl rfl)
theorem dX1_cede_140 : decode cX1_cede 140 = .ok (.ifCond .le 35, 3) := dk_158 0 35 (dk_at dksX1_cede_5 21 rfl rfl)
theorem dX1_cede_143 : decode cX1_cede 143 = .ok (.aload_n 0, 1) := dk_42 (dk_at dksX1_cede_6 0 rfl rfl)
theorem dX1_cede_144 : decode cX1_cede 144 = .ok (.getfield 39, 3) := dk_180 0 39 (dk_at dksX1_cede_6 1 rfl rfl)
theorem dX1_cede_147 : decode cX1_cede 147 = .ok (.getfield 171, 3) := dk_180 0 171 (dk_at dksX1_cede_6 4 rfl rfl)
theorem dX1_cede_150 : decode cX1_cede 150 = .ok (.iload_n 1, 1) := dk_27 (dk_at dksX1_cede_6 7 rfl rfl)
theorem dX1_cede_151 : decode cX1_cede 151 = .ok (.invokevirtual 192, 3) := dk_182 0 192 (dk_at dksX1_cede_6 8 rfl rfl)
theorem dX1_cede_154 : decode cX1_cede 154 = .ok (.ifCond .eq 17, 3) := dk_153 0 17 (dk_at dksX1_cede_6 11 rfl rfl)
theorem dX1_cede_157 : decode cX1_cede 157 = .ok (.aload_n 0, 1) := dk_42 (dk_at dksX1_cede_6 14 rfl rfl)
theorem dX1_cede_158 : decode cX1_cede 158 = .ok (.getfield 39, 3) := dk_180 0 39 (dk_at dksX1_cede_6 15 rfl rfl)
theorem dX1_cede_161 : decode cX1_cede 161 = .ok (.getfield 171, 3) := dk_180 0 171 (dk_at dksX1_cede_6 18 rfl rfl)
theorem dX1_cede_164 : decode cX1_cede 164 = .ok (.iload_n 2, 1) := dk_28 (dk_at dksX1_cede_6 21 rfl rfl)
theorem dX1_cede_165 : decode cX1_cede 165 = .ok (.invokevirtual 192, 3) := dk_182 0 192 (dk_at dksX1_cede_7 0 rfl rfl)
theorem dX1_cede_168 : decode cX1_cede 168 = .ok (.ifCond .ne 7, 3) := dk_154 0 7 (dk_at dksX1_cede_7 3 rfl rfl)
theorem dX1_cede_171 : decode cX1_cede 171 = .ok (.bipush (-2), 2) := dk_16 254 (dk_at dksX1_cede_7 6 rfl rfl)
theorem dX1_cede_173 : decode cX1_cede 173 = .ok (.istore 9, 2) := dk_54 9 (dk_at dksX1_cede_7 8 rfl rfl)
theorem dX1_cede_175 : decode cX1_cede 175 = .ok (.iload 9, 2) := dk_21 9 (dk_at dksX1_cede_7 10 rfl rfl)
theorem dX1_cede_177 : decode cX1_cede 177 = .ok (.ifCond .ge 25, 3) := dk_156 0 25 (dk_at dksX1_cede_7 12 rfl rfl)
theorem dX1_cede_180 : decode cX1_cede 180 = .ok (.aload_n 0, 1) := dk_42 (dk_at dksX1_cede_7 15 rfl rfl)
theorem dX1_cede_181 : decode cX1_cede 181 = .ok (.getfield 47, 3) := dk_180 0 47 (dk_at dksX1_cede_7 16 rfl rfl)
theorem dX1_cede_184 : decode cX1_cede 184 = .ok (.iconst 0, 1) := dk_3 (dk_at dksX1_cede_7 19 rfl rfl)
theorem dX1_cede_185 : decode cX1_cede 185 = .ok (.aload_n 0, 1) := dk_42 (dk_at dksX1_cede_7 20 rfl rfl)
theorem dX1_cede_186 : decode cX1_cede 186 = .ok (.getfield 39, 3) := dk_180 0 39 (dk_at dksX1_cede_7 21 rfl rfl)
theorem dX1_cede_189 : decode cX1_cede 189 = .ok (.getfield 171, 3) := dk_180 0 171 (dk_at dksX1_cede_8 0 rfl rfl)
theorem dX1_cede_192 : decode cX1_cede 192 = .ok (.getfield 175, 3) := dk_180 0 175 (dk_at dksX1_cede_8 3 rfl rfl)
theorem dX1_cede_195 : decode cX1_cede 195 = .ok (.iconst 0, 1) := dk_3 (dk_at dksX1_cede_8 6 rfl rfl)
theorem dX1_cede_196 : decode cX1_cede 196 = .ok (.sipush 900, 3) := dk_17 3 132 (dk_at dksX1_cede_8 7 rfl rfl)
theorem dX1_cede_199 : decode cX1_cede 199 = .ok (.invokestatic 212, 3) := dk_184 0 212 (dk_at dksX1_cede_8 10 rfl rfl)
theorem dX1_cede_202 : decode cX1_cede 202 = .ok (.iload 9, 2) := dk_21 9 (dk_at dksX1_cede_8 13 rfl rfl)
theorem dX1_cede_204 : decode cX1_cede 204 = .ok (.ireturn, 1) := dk_172 (dk_at dksX1_cede_8 15 rfl rfl)
abbrev cX1_moveCells : ByteArray := prog_1_method_35_code
def yX1_moveCells : MethodName := ⟨RX1, "moveCells", "(IILFranchiseLedger$Area;)I"⟩
def dkwX1_moveCells_3 : List UInt8 := [132, 5, 1, 132, 6, 1, 167, 255, 199, 21, 5, 172]
abbrev dktX1_moveCells_3 : List UInt8 := dkwX1_moveCells_3 ++ []
def dkwX1_moveCells_2 : List UInt8 := [42, 180, 0, 39, 21, 6, 182, 0, 203, 153, 0, 6, 16, 254, 172, 25, 4, 21, 6, 28, 145, 84]
abbrev dktX1_moveCells_2 : List UInt8 := dkwX1_moveCells_2 ++ dktX1_moveCells_3
def dkwX1_moveCells_1 : List UInt8 := [162, 0, 55, 25, 4, 21, 6, 51, 27, 160, 0, 40, 45, 21, 6, 182, 0, 198, 154, 0, 6, 167, 0, 28]
abbrev dktX1_moveCells_1 : List UInt8 := dkwX1_moveCells_1 ++ dktX1_moveCells_2
def dkwX1_moveCells_0 : List UInt8 := [42, 180, 0, 39, 180, 0, 171, 180, 0, 175, 58, 4, 3, 54, 5, 3, 54, 6, 21, 6, 17, 3, 132]
abbrev dktX1_moveCells_0 : List UInt8 := dkwX1_moveCells_0 ++ dktX1_moveCells_1
theorem dksX1_moveCells_0 : cX1_moveCells.data.toList.drop 0 = dktX1_moveCells_0 := by decide +kernel
theorem dksX1_moveCells_1 : cX1_moveCells.data.toList.drop 23 = dktX1_moveCells_1 := dk_seg dksX1_moveCells_0 23 rfl rfl
theorem dksX1_moveCells_2 : cX1_moveCells.data.toList.drop 47 = dktX1_moveCells_2 := dk_seg dksX1_moveCells_1 24 rfl rfl
theorem dksX1_moveCells_3 : cX1_moveCells.data.toList.drop 69 = dktX1_moveCells_3 := dk_seg dksX1_moveCells_2 22 rfl rfl
theorem dX1_moveCells_0 : decode cX1_moveCells 0 = .ok (.aload_n 0, 1) := dk_42 (dk_at dksX1_moveCells_0 0 rfl rfl)
theorem dX1_moveCells_1 : decode cX1_moveCells 1 = .ok (.getfield 39, 3) := dk_180 0 39 (dk_at dksX1_moveCells_0 1 rfl rfl)
theorem dX1_moveCells_4 : decode cX1_moveCells 4 = .ok (.getfield 171, 3) := dk_180 0 171 (dk_at dksX1_moveCells_0 4 rfl rfl)
theorem dX1_moveCells_7 : decode cX1_moveCells 7 = .ok (.getfield 175, 3) := dk_180 0 175 (dk_at dksX1_moveCells_0 7 rfl rfl)
theorem dX1_moveCells_10 : decode cX1_moveCells 10 = .ok (.astore 4, 2) := dk_58 4 (dk_at dksX1_moveCells_0 10 rfl rfl)
theorem dX1_moveCells_12 : decode cX1_moveCells 12 = .ok (.iconst 0, 1) := dk_3 (dk_at dksX1_moveCells_0 12 rfl rfl)
theorem dX1_moveCells_13 : decode cX1_moveCells 13 = .ok (.istore 5, 2) := dk_54 5 (dk_at dksX1_moveCells_0 13 rfl rfl)
theorem dX1_moveCells_15 : decode cX1_moveCells 15 = .ok (.iconst 0, 1) := dk_3 (dk_at dksX1_moveCells_0 15 rfl rfl)
theorem dX1_moveCells_16 : decode cX1_moveCells 16 = .ok (.istore 6, 2) := dk_54 6 (dk_at dksX1_moveCells_0 16 rfl rfl)
theorem dX1_moveCells_18 : decode cX1_moveCells 18 = .ok (.iload 6, 2) := dk_21 6 (dk_at dksX1_moveCells_0 18 rfl rfl)
theorem dX1_moveCells_20 : decode cX1_moveCells 20 = .ok (.sipush 900, 3) := dk_17 3 132 (dk_at dksX1_moveCells_0 20 rfl rfl)
theorem dX1_moveCells_23 : decode cX1_moveCells 23 = .ok (.if_icmp .ge 55, 3) := dk_162 0 55 (dk_at dksX1_moveCells_1 0 rfl rfl)
theorem dX1_moveCells_26 : decode cX1_moveCells 26 = .ok (.aload 4, 2) := dk_25 4 (dk_at dksX1_moveCells_1 3 rfl rfl)
theorem dX1_moveCells_28 : decode cX1_moveCells 28 = .ok (.iload 6, 2) := dk_21 6 (dk_at dksX1_moveCells_1 5 rfl rfl)
theorem dX1_moveCells_30 : decode cX1_moveCells 30 = .ok (.baload, 1) := dk_51 (dk_at dksX1_moveCells_1 7 rfl rfl)
theorem dX1_moveCells_31 : decode cX1_moveCells 31 = .ok (.iload_n 1, 1) := dk_27 (dk_at dksX1_moveCells_1 8 rfl rfl)
theorem dX1_moveCells_32 : decode cX1_moveCells 32 = .ok (.if_icmp .ne 40, 3) := dk_160 0 40 (dk_at dksX1_moveCells_1 9 rfl rfl)
theorem dX1_moveCells_35 : decode cX1_moveCells 35 = .ok (.aload_n 3, 1) := dk_45 (dk_at dksX1_moveCells_1 12 rfl rfl)
theorem dX1_moveCells_36 : decode cX1_moveCells 36 = .ok (.iload 6, 2) := dk_21 6 (dk_at dksX1_moveCells_1 13 rfl rfl)
theorem dX1_moveCells_38 : decode cX1_moveCells 38 = .ok (.invokevirtual 198, 3) := dk_182 0 198 (dk_at dksX1_moveCells_1 15 rfl rfl)
theorem dX1_moveCells_41 : decode cX1_moveCells 41 = .ok (.ifCond .ne 6, 3) := dk_154 0 6 (dk_at dksX1_moveCells_1 18 rfl rfl)
theorem dX1_moveCells_44 : decode cX1_moveCells 44 = .ok (.goto 28, 3) := dk_167 0 28 (dk_at dksX1_moveCells_1 21 rfl rfl)
theorem dX1_moveCells_47 : decode cX1_moveCells 47 = .ok (.aload_n 0, 1) := dk_42 (dk_at dksX1_moveCells_2 0 rfl rfl)
theorem dX1_moveCells_48 : decode cX1_moveCells 48 = .ok (.getfield 39, 3) := dk_180 0 39 (dk_at dksX1_moveCells_2 1 rfl rfl)
theorem dX1_moveCells_51 : decode cX1_moveCells 51 = .ok (.iload 6, 2) := dk_21 6 (dk_at dksX1_moveCells_2 4 rfl rfl)
theorem dX1_moveCells_53 : decode cX1_moveCells 53 = .ok (.invokevirtual 203, 3) := dk_182 0 203 (dk_at dksX1_moveCells_2 6 rfl rfl)
theorem dX1_moveCells_56 : decode cX1_moveCells 56 = .ok (.ifCond .eq 6, 3) := dk_153 0 6 (dk_at dksX1_moveCells_2 9 rfl rfl)
theorem dX1_moveCells_59 : decode cX1_moveCells 59 = .ok (.bipush (-2), 2) := dk_16 254 (dk_at dksX1_moveCells_2 12 rfl rfl)
theorem dX1_moveCells_61 : decode cX1_moveCells 61 = .ok (.ireturn, 1) := dk_172 (dk_at dksX1_moveCells_2 14 rfl rfl)
theorem dX1_moveCells_62 : decode cX1_moveCells 62 = .ok (.aload 4, 2) := dk_25 4 (dk_at dksX1_moveCells_2 15 rfl rfl)
theorem dX1_moveCells_64 : decode cX1_moveCells 64 = .ok (.iload 6, 2) := dk_21 6 (dk_at dksX1_moveCells_2 17 rfl rfl)
theorem dX1_moveCells_66 : decode cX1_moveCells 66 = .ok (.iload_n 2, 1) := dk_28 (dk_at dksX1_moveCells_2 19 rfl rfl)
theorem dX1_moveCells_67 : decode cX1_moveCells 67 = .ok (.i2b, 1) := dk_145 (dk_at dksX1_moveCells_2 20 rfl rfl)
theorem dX1_moveCells_68 : decode cX1_moveCells 68 = .ok (.bastore, 1) := dk_84 (dk_at dksX1_moveCells_2 21 rfl rfl)
theorem dX1_moveCells_69 : decode cX1_moveCells 69 = .ok (.iinc 5 1, 3) := dk_132 5 1 (dk_at dksX1_moveCells_3 0 rfl rfl)
theorem dX1_moveCells_72 : decode cX1_moveCells 72 = .ok (.iinc 6 1, 3) := dk_132 6 1 (dk_at dksX1_moveCells_3 3 rfl rfl)
theorem dX1_moveCells_75 : decode cX1_moveCells 75 = .ok (.goto (-57), 3) := dk_167 255 199 (dk_at dksX1_moveCells_3 6 rfl rfl)
theorem dX1_moveCells_78 : decode cX1_moveCells 78 = .ok (.iload 5, 2) := dk_21 5 (dk_at dksX1_moveCells_3 9 rfl rfl)
theorem dX1_moveCells_80 : decode cX1_moveCells 80 = .ok (.ireturn, 1) := dk_172 (dk_at dksX1_moveCells_3 11 rfl rfl)
abbrev cX1_outletOwner : ByteArray := prog_1_method_18_code
def yX1_outletOwner : MethodName := ⟨RX1, "outletOwner", "(I)I"⟩
def dkwX1_outletOwner_0 : List UInt8 := [42, 27, 182, 0, 121, 180, 0, 125, 172]
abbrev dktX1_outletOwner_0 : List UInt8 := dkwX1_outletOwner_0 ++ []
theorem dksX1_outletOwner_0 : cX1_outletOwner.data.toList.drop 0 = dktX1_outletOwner_0 := by decide +kernel
theorem dX1_outletOwner_0 : decode cX1_outletOwner 0 = .ok (.aload_n 0, 1) := dk_42 (dk_at dksX1_outletOwner_0 0 rfl rfl)
theorem dX1_outletOwner_1 : decode cX1_outletOwner 1 = .ok (.iload_n 1, 1) := dk_27 (dk_at dksX1_outletOwner_0 1 rfl rfl)
theorem dX1_outletOwner_2 : decode cX1_outletOwner 2 = .ok (.invokevirtual 121, 3) := dk_182 0 121 (dk_at dksX1_outletOwner_0 2 rfl rfl)
theorem dX1_outletOwner_5 : decode cX1_outletOwner 5 = .ok (.getfield 125, 3) := dk_180 0 125 (dk_at dksX1_outletOwner_0 5 rfl rfl)
theorem dX1_outletOwner_8 : decode cX1_outletOwner 8 = .ok (.ireturn, 1) := dk_172 (dk_at dksX1_outletOwner_0 8 rfl rfl)
abbrev cX1_outletCell : ByteArray := prog_1_method_19_code
def yX1_outletCell : MethodName := ⟨RX1, "outletCell", "(I)I"⟩
def dkwX1_outletCell_0 : List UInt8 := [42, 27, 182, 0, 121, 180, 0, 128, 184, 0, 131, 172]
abbrev dktX1_outletCell_0 : List UInt8 := dkwX1_outletCell_0 ++ []
theorem dksX1_outletCell_0 : cX1_outletCell.data.toList.drop 0 = dktX1_outletCell_0 := by decide +kernel
theorem dX1_outletCell_0 : decode cX1_outletCell 0 = .ok (.aload_n 0, 1) := dk_42 (dk_at dksX1_outletCell_0 0 rfl rfl)
theorem dX1_outletCell_1 : decode cX1_outletCell 1 = .ok (.iload_n 1, 1) := dk_27 (dk_at dksX1_outletCell_0 1 rfl rfl)
theorem dX1_outletCell_2 : decode cX1_outletCell 2 = .ok (.invokevirtual 121, 3) := dk_182 0 121 (dk_at dksX1_outletCell_0 2 rfl rfl)
theorem dX1_outletCell_5 : decode cX1_outletCell 5 = .ok (.getfield 128, 3) := dk_180 0 128 (dk_at dksX1_outletCell_0 5 rfl rfl)
theorem dX1_outletCell_8 : decode cX1_outletCell 8 = .ok (.invokestatic 131, 3) := dk_184 0 131 (dk_at dksX1_outletCell_0 8 rfl rfl)
theorem dX1_outletCell_11 : decode cX1_outletCell 11 = .ok (.ireturn, 1) := dk_172 (dk_at dksX1_outletCell_0 11 rfl rfl)
abbrev cX1_told : ByteArray := prog_1_method_20_code
def yX1_told : MethodName := ⟨RX1, "told", "(I)I"⟩
def dkwX1_told_0 : List UInt8 := [16, 100, 26, 184, 0, 21, 104, 26, 184, 0, 12, 96, 172]
abbrev dktX1_told_0 : List UInt8 := dkwX1_told_0 ++ []
theorem dksX1_told_0 : cX1_told.data.toList.drop 0 = dktX1_told_0 := by decide +kernel
theorem dX1_told_0 : decode cX1_told 0 = .ok (.bipush 100, 2) := dk_16 100 (dk_at dksX1_told_0 0 rfl rfl)
theorem dX1_told_2 : decode cX1_told 2 = .ok (.iload_n 0, 1) := dk_26 (dk_at dksX1_told_0 2 rfl rfl)
theorem dX1_told_3 : decode cX1_told 3 = .ok (.invokestatic 21, 3) := dk_184 0 21 (dk_at dksX1_told_0 3 rfl rfl)
theorem dX1_told_6 : decode cX1_told 6 = .ok (.imul, 1) := dk_104 (dk_at dksX1_told_0 6 rfl rfl)
theorem dX1_told_7 : decode cX1_told 7 = .ok (.iload_n 0, 1) := dk_26 (dk_at dksX1_told_0 7 rfl rfl)
theorem dX1_told_8 : decode cX1_told 8 = .ok (.invokestatic 12, 3) := dk_184 0 12 (dk_at dksX1_told_0 8 rfl rfl)
theorem dX1_told_11 : decode cX1_told 11 = .ok (.iadd, 1) := dk_96 (dk_at dksX1_told_0 11 rfl rfl)
theorem dX1_told_12 : decode cX1_told 12 = .ok (.ireturn, 1) := dk_172 (dk_at dksX1_told_0 12 rfl rfl)
abbrev cX1_openOutlet : ByteArray := prog_1_method_37_code
def yX1_openOutlet : MethodName := ⟨RX1, "openOutlet", "(III)I"⟩
def dkwX1_openOutlet_5 : List UInt8 := [180, 0, 102, 185, 0, 78, 1, 0, 4, 100, 172]
abbrev dktX1_openOutlet_5 : List UInt8 := dkwX1_openOutlet_5 ++ []
def dkwX1_openOutlet_4 : List UInt8 := [180, 0, 102, 187, 0, 105, 89, 21, 5, 27, 183, 0, 225, 185, 0, 228, 2, 0, 87, 42, 180, 0, 39]
abbrev dktX1_openOutlet_4 : List UInt8 := dkwX1_openOutlet_4 ++ dktX1_openOutlet_5
def dkwX1_openOutlet_3 : List UInt8 := [180, 0, 39, 180, 0, 102, 185, 0, 78, 1, 0, 16, 16, 160, 0, 6, 16, 253, 172, 42, 180, 0, 39]
abbrev dktX1_openOutlet_3 : List UInt8 := dkwX1_openOutlet_3 ++ dktX1_openOutlet_4
def dkwX1_openOutlet_2 : List UInt8 := [21, 5, 51, 27, 160, 0, 15, 42, 180, 0, 39, 21, 5, 182, 0, 203, 153, 0, 6, 16, 254, 172, 42]
abbrev dktX1_openOutlet_2 : List UInt8 := dkwX1_openOutlet_2 ++ dktX1_openOutlet_3
def dkwX1_openOutlet_1 : List UInt8 := [184, 0, 180, 54, 5, 25, 4, 182, 0, 208, 153, 0, 32, 42, 180, 0, 39, 180, 0, 171, 180, 0, 175]
abbrev dktX1_openOutlet_1 : List UInt8 := dkwX1_openOutlet_1 ++ dktX1_openOutlet_2
def dkwX1_openOutlet_0 : List UInt8 := [42, 27, 182, 0, 134, 58, 4, 4, 188, 4, 89, 3, 28, 29, 184, 0, 164, 84, 184, 0, 168, 28, 29]
abbrev dktX1_openOutlet_0 : List UInt8 := dkwX1_openOutlet_0 ++ dktX1_openOutlet_1
theorem dksX1_openOutlet_0 : cX1_openOutlet.data.toList.drop 0 = dktX1_openOutlet_0 := by decide +kernel
theorem dksX1_openOutlet_1 : cX1_openOutlet.data.toList.drop 23 = dktX1_openOutlet_1 := dk_seg dksX1_openOutlet_0 23 rfl rfl
theorem dksX1_openOutlet_2 : cX1_openOutlet.data.toList.drop 46 = dktX1_openOutlet_2 := dk_seg dksX1_openOutlet_1 23 rfl rfl
theorem dksX1_openOutlet_3 : cX1_openOutlet.data.toList.drop 69 = dktX1_openOutlet_3 := dk_seg dksX1_openOutlet_2 23 rfl rfl
theorem dksX1_openOutlet_4 : cX1_openOutlet.data.toList.drop 92 = dktX1_openOutlet_4 := dk_seg dksX1_openOutlet_3 23 rfl rfl
theorem dksX1_openOutlet_5 : cX1_openOutlet.data.toList.drop 115 = dktX1_openOutlet_5 := dk_seg dksX1_openOutlet_4 23 rfl rfl
theorem dX1_openOutlet_0 : decode cX1_openOutlet 0 = .ok (.aload_n 0, 1) := dk_42 (dk_at dksX1_openOutlet_0 0 rfl rfl)
theorem dX1_openOutlet_1 : decode cX1_openOutlet 1 = .ok (.iload_n 1, 1) := dk_27 (dk_at dksX1_openOutlet_0 1 rfl rfl)
theorem dX1_openOutlet_2 : decode cX1_openOutlet 2 = .ok (.invokevirtual 134, 3) := dk_182 0 134 (dk_at dksX1_openOutlet_0 2 rfl rfl)
theorem dX1_openOutlet_5 : decode cX1_openOutlet 5 = .ok (.astore 4, 2) := dk_58 4 (dk_at dksX1_openOutlet_0 5 rfl rfl)
theorem dX1_openOutlet_7 : decode cX1_openOutlet 7 = .ok (.iconst 1, 1) := dk_4 (dk_at dksX1_openOutlet_0 7 rfl rfl)
theorem dX1_openOutlet_8 : decode cX1_openOutlet 8 = .ok (.newarray .boolean, 2) := dk_188_4 (dk_at dksX1_openOutlet_0 8 rfl rfl)
theorem dX1_openOutlet_10 : decode cX1_openOutlet 10 = .ok (.dup, 1) := dk_89 (dk_at dksX1_openOutlet_0 10 rfl rfl)
theorem dX1_openOutlet_11 : decode cX1_openOutlet 11 = .ok (.iconst 0, 1) := dk_3 (dk_at dksX1_openOutlet_0 11 rfl rfl)
theorem dX1_openOutlet_12 : decode cX1_openOutlet 12 = .ok (.iload_n 2, 1) := dk_28 (dk_at dksX1_openOutlet_0 12 rfl rfl)
theorem dX1_openOutlet_13 : decode cX1_openOutlet 13 = .ok (.iload_n 3, 1) := dk_29 (dk_at dksX1_openOutlet_0 13 rfl rfl)
theorem dX1_openOutlet_14 : decode cX1_openOutlet 14 = .ok (.invokestatic 164, 3) := dk_184 0 164 (dk_at dksX1_openOutlet_0 14 rfl rfl)
theorem dX1_openOutlet_17 : decode cX1_openOutlet 17 = .ok (.bastore, 1) := dk_84 (dk_at dksX1_openOutlet_0 17 rfl rfl)
theorem dX1_openOutlet_18 : decode cX1_openOutlet 18 = .ok (.invokestatic 168, 3) := dk_184 0 168 (dk_at dksX1_openOutlet_0 18 rfl rfl)
theorem dX1_openOutlet_21 : decode cX1_openOutlet 21 = .ok (.iload_n 2, 1) := dk_28 (dk_at dksX1_openOutlet_0 21 rfl rfl)
theorem dX1_openOutlet_22 : decode cX1_openOutlet 22 = .ok (.iload_n 3, 1) := dk_29 (dk_at dksX1_openOutlet_0 22 rfl rfl)
theorem dX1_openOutlet_23 : decode cX1_openOutlet 23 = .ok (.invokestatic 180, 3) := dk_184 0 180 (dk_at dksX1_openOutlet_1 0 rfl rfl)
theorem dX1_openOutlet_26 : decode cX1_openOutlet 26 = .ok (.istore 5, 2) := dk_54 5 (dk_at dksX1_openOutlet_1 3 rfl rfl)
theorem dX1_openOutlet_28 : decode cX1_openOutlet 28 = .ok (.aload 4, 2) := dk_25 4 (dk_at dksX1_openOutlet_1 5 rfl rfl)
theorem dX1_openOutlet_30 : decode cX1_openOutlet 30 = .ok (.invokevirtual 208, 3) := dk_182 0 208 (dk_at dksX1_openOutlet_1 7 rfl rfl)
theorem dX1_openOutlet_33 : decode cX1_openOutlet 33 = .ok (.ifCond .eq 32, 3) := dk_153 0 32 (dk_at dksX1_openOutlet_1 10 rfl rfl)
theorem dX1_openOutlet_36 : decode cX1_openOutlet 36 = .ok (.aload_n 0, 1) := dk_42 (dk_at dksX1_openOutlet_1 13 rfl rfl)
theorem dX1_openOutlet_37 : decode cX1_openOutlet 37 = .ok (.getfield 39, 3) := dk_180 0 39 (dk_at dksX1_openOutlet_1 14 rfl rfl)
theorem dX1_openOutlet_40 : decode cX1_openOutlet 40 = .ok (.getfield 171, 3) := dk_180 0 171 (dk_at dksX1_openOutlet_1 17 rfl rfl)
theorem dX1_openOutlet_43 : decode cX1_openOutlet 43 = .ok (.getfield 175, 3) := dk_180 0 175 (dk_at dksX1_openOutlet_1 20 rfl rfl)
theorem dX1_openOutlet_46 : decode cX1_openOutlet 46 = .ok (.iload 5, 2) := dk_21 5 (dk_at dksX1_openOutlet_2 0 rfl rfl)
theorem dX1_openOutlet_48 : decode cX1_openOutlet 48 = .ok (.baload, 1) := dk_51 (dk_at dksX1_openOutlet_2 2 rfl rfl)
theorem dX1_openOutlet_49 : decode cX1_openOutlet 49 = .ok (.iload_n 1, 1) := dk_27 (dk_at dksX1_openOutlet_2 3 rfl rfl)
theorem dX1_openOutlet_50 : decode cX1_openOutlet 50 = .ok (.if_icmp .ne 15, 3) := dk_160 0 15 (dk_at dksX1_openOutlet_2 4 rfl rfl)
theorem dX1_openOutlet_53 : decode cX1_openOutlet 53 = .ok (.aload_n 0, 1) := dk_42 (dk_at dksX1_openOutlet_2 7 rfl rfl)
theorem dX1_openOutlet_54 : decode cX1_openOutlet 54 = .ok (.getfield 39, 3) := dk_180 0 39 (dk_at dksX1_openOutlet_2 8 rfl rfl)
theorem dX1_openOutlet_57 : decode cX1_openOutlet 57 = .ok (.iload 5, 2) := dk_21 5 (dk_at dksX1_openOutlet_2 11 rfl rfl)
theorem dX1_openOutlet_59 : decode cX1_openOutlet 59 = .ok (.invokevirtual 203, 3) := dk_182 0 203 (dk_at dksX1_openOutlet_2 13 rfl rfl)
theorem dX1_openOutlet_62 : decode cX1_openOutlet 62 = .ok (.ifCond .eq 6, 3) := dk_153 0 6 (dk_at dksX1_openOutlet_2 16 rfl rfl)
theorem dX1_openOutlet_65 : decode cX1_openOutlet 65 = .ok (.bipush (-2), 2) := dk_16 254 (dk_at dksX1_openOutlet_2 19 rfl rfl)
theorem dX1_openOutlet_67 : decode cX1_openOutlet 67 = .ok (.ireturn, 1) := dk_172 (dk_at dksX1_openOutlet_2 21 rfl rfl)
theorem dX1_openOutlet_68 : decode cX1_openOutlet 68 = .ok (.aload_n 0, 1) := dk_42 (dk_at dksX1_openOutlet_2 22 rfl rfl)
theorem dX1_openOutlet_69 : decode cX1_openOutlet 69 = .ok (.getfield 39, 3) := dk_180 0 39 (dk_at dksX1_openOutlet_3 0 rfl rfl)
theorem dX1_openOutlet_72 : decode cX1_openOutlet 72 = .ok (.getfield 102, 3) := dk_180 0 102 (dk_at dksX1_openOutlet_3 3 rfl rfl)
theorem dX1_openOutlet_75 : decode cX1_openOutlet 75 = .ok (.invokeinterface 78 1, 5) := by decide +kernel
theorem dX1_openOutlet_80 : decode cX1_openOutlet 80 = .ok (.bipush 16, 2) := dk_16 16 (dk_at dksX1_openOutlet_3 11 rfl rfl)
theorem dX1_openOutlet_82 : decode cX1_openOutlet 82 = .ok (.if_icmp .ne 6, 3) := dk_160 0 6 (dk_at dksX1_openOutlet_3 13 rfl rfl)
theorem dX1_openOutlet_85 : decode cX1_openOutlet 85 = .ok (.bipush (-3), 2) := dk_16 253 (dk_at dksX1_openOutlet_3 16 rfl rfl)
theorem dX1_openOutlet_87 : decode cX1_openOutlet 87 = .ok (.ireturn, 1) := dk_172 (dk_at dksX1_openOutlet_3 18 rfl rfl)
theorem dX1_openOutlet_88 : decode cX1_openOutlet 88 = .ok (.aload_n 0, 1) := dk_42 (dk_at dksX1_openOutlet_3 19 rfl rfl)
theorem dX1_openOutlet_89 : decode cX1_openOutlet 89 = .ok (.getfield 39, 3) := dk_180 0 39 (dk_at dksX1_openOutlet_3 20 rfl rfl)
theorem dX1_openOutlet_92 : decode cX1_openOutlet 92 = .ok (.getfield 102, 3) := dk_180 0 102 (dk_at dksX1_openOutlet_4 0 rfl rfl)
theorem dX1_openOutlet_95 : decode cX1_openOutlet 95 = .ok (.new 105, 3) := dk_187 0 105 (dk_at dksX1_openOutlet_4 3 rfl rfl)
theorem dX1_openOutlet_98 : decode cX1_openOutlet 98 = .ok (.dup, 1) := dk_89 (dk_at dksX1_openOutlet_4 6 rfl rfl)
theorem dX1_openOutlet_99 : decode cX1_openOutlet 99 = .ok (.iload 5, 2) := dk_21 5 (dk_at dksX1_openOutlet_4 7 rfl rfl)
theorem dX1_openOutlet_101 : decode cX1_openOutlet 101 = .ok (.iload_n 1, 1) := dk_27 (dk_at dksX1_openOutlet_4 9 rfl rfl)
theorem dX1_openOutlet_102 : decode cX1_openOutlet 102 = .ok (.invokespecial 225, 3) := dk_183 0 225 (dk_at dksX1_openOutlet_4 10 rfl rfl)
theorem dX1_openOutlet_105 : decode cX1_openOutlet 105 = .ok (.invokeinterface 228 2, 5) := by decide +kernel
theorem dX1_openOutlet_110 : decode cX1_openOutlet 110 = .ok (.pop, 1) := dk_87 (dk_at dksX1_openOutlet_4 18 rfl rfl)
theorem dX1_openOutlet_111 : decode cX1_openOutlet 111 = .ok (.aload_n 0, 1) := dk_42 (dk_at dksX1_openOutlet_4 19 rfl rfl)
theorem dX1_openOutlet_112 : decode cX1_openOutlet 112 = .ok (.getfield 39, 3) := dk_180 0 39 (dk_at dksX1_openOutlet_4 20 rfl rfl)
theorem dX1_openOutlet_115 : decode cX1_openOutlet 115 = .ok (.getfield 102, 3) := dk_180 0 102 (dk_at dksX1_openOutlet_5 0 rfl rfl)
theorem dX1_openOutlet_118 : decode cX1_openOutlet 118 = .ok (.invokeinterface 78 1, 5) := by decide +kernel
theorem dX1_openOutlet_123 : decode cX1_openOutlet 123 = .ok (.iconst 1, 1) := dk_4 (dk_at dksX1_openOutlet_5 8 rfl rfl)
theorem dX1_openOutlet_124 : decode cX1_openOutlet 124 = .ok (.isub, 1) := dk_100 (dk_at dksX1_openOutlet_5 9 rfl rfl)
theorem dX1_openOutlet_125 : decode cX1_openOutlet 125 = .ok (.ireturn, 1) := dk_172 (dk_at dksX1_openOutlet_5 10 rfl rfl)
abbrev cX1_bestSite : ByteArray := prog_1_method_38_code
def yX1_bestSite : MethodName := ⟨RX1, "bestSite", "(I)I"⟩
def dkwX1_bestSite_4 : List UInt8 := [132, 4, 1, 167, 255, 181, 28, 2, 160, 0, 7, 2, 167, 0, 7, 28, 184, 0, 131, 172]
abbrev dktX1_bestSite_4 : List UInt8 := dkwX1_bestSite_4 ++ []
def dkwX1_bestSite_3 : List UInt8 := [54, 5, 28, 2, 159, 0, 12, 21, 5, 29, 163, 0, 6, 167, 0, 9, 21, 4, 61, 21, 5, 62]
abbrev dktX1_bestSite_3 : List UInt8 := dkwX1_bestSite_3 ++ dktX1_bestSite_4
def dkwX1_bestSite_2 : List UInt8 := [180, 0, 39, 21, 4, 182, 0, 203, 153, 0, 6, 167, 0, 35, 42, 180, 0, 39, 21, 4, 2, 182, 0, 232]
abbrev dktX1_bestSite_2 : List UInt8 := dkwX1_bestSite_2 ++ dktX1_bestSite_3
def dkwX1_bestSite_1 : List UInt8 := [17, 3, 132, 162, 0, 73, 42, 180, 0, 39, 180, 0, 171, 180, 0, 175, 21, 4, 51, 27, 160, 0, 50, 42]
abbrev dktX1_bestSite_1 : List UInt8 := dkwX1_bestSite_1 ++ dktX1_bestSite_2
def dkwX1_bestSite_0 : List UInt8 := [4, 188, 4, 89, 3, 42, 27, 182, 0, 88, 84, 184, 0, 92, 2, 61, 3, 62, 3, 54, 4, 21, 4]
abbrev dktX1_bestSite_0 : List UInt8 := dkwX1_bestSite_0 ++ dktX1_bestSite_1
theorem dksX1_bestSite_0 : cX1_bestSite.data.toList.drop 0 = dktX1_bestSite_0 := by decide +kernel
theorem dksX1_bestSite_1 : cX1_bestSite.data.toList.drop 23 = dktX1_bestSite_1 := dk_seg dksX1_bestSite_0 23 rfl rfl
theorem dksX1_bestSite_2 : cX1_bestSite.data.toList.drop 47 = dktX1_bestSite_2 := dk_seg dksX1_bestSite_1 24 rfl rfl
theorem dksX1_bestSite_3 : cX1_bestSite.data.toList.drop 71 = dktX1_bestSite_3 := dk_seg dksX1_bestSite_2 24 rfl rfl
theorem dksX1_bestSite_4 : cX1_bestSite.data.toList.drop 93 = dktX1_bestSite_4 := dk_seg dksX1_bestSite_3 22 rfl rfl
theorem dX1_bestSite_0 : decode cX1_bestSite 0 = .ok (.iconst 1, 1) := dk_4 (dk_at dksX1_bestSite_0 0 rfl rfl)
theorem dX1_bestSite_1 : decode cX1_bestSite 1 = .ok (.newarray .boolean, 2) := dk_188_4 (dk_at dksX1_bestSite_0 1 rfl rfl)
theorem dX1_bestSite_3 : decode cX1_bestSite 3 = .ok (.dup, 1) := dk_89 (dk_at dksX1_bestSite_0 3 rfl rfl)
theorem dX1_bestSite_4 : decode cX1_bestSite 4 = .ok (.iconst 0, 1) := dk_3 (dk_at dksX1_bestSite_0 4 rfl rfl)
theorem dX1_bestSite_5 : decode cX1_bestSite 5 = .ok (.aload_n 0, 1) := dk_42 (dk_at dksX1_bestSite_0 5 rfl rfl)
theorem dX1_bestSite_6 : decode cX1_bestSite 6 = .ok (.iload_n 1, 1) := dk_27 (dk_at dksX1_bestSite_0 6 rfl rfl)
theorem dX1_bestSite_7 : decode cX1_bestSite 7 = .ok (.invokevirtual 88, 3) := dk_182 0 88 (dk_at dksX1_bestSite_0 7 rfl rfl)
theorem dX1_bestSite_10 : decode cX1_bestSite 10 = .ok (.bastore, 1) := dk_84 (dk_at dksX1_bestSite_0 10 rfl rfl)
theorem dX1_bestSite_11 : decode cX1_bestSite 11 = .ok (.invokestatic 92, 3) := dk_184 0 92 (dk_at dksX1_bestSite_0 11 rfl rfl)
theorem dX1_bestSite_14 : decode cX1_bestSite 14 = .ok (.iconst (-1), 1) := dk_2 (dk_at dksX1_bestSite_0 14 rfl rfl)
theorem dX1_bestSite_15 : decode cX1_bestSite 15 = .ok (.istore_n 2, 1) := dk_61 (dk_at dksX1_bestSite_0 15 rfl rfl)
theorem dX1_bestSite_16 : decode cX1_bestSite 16 = .ok (.iconst 0, 1) := dk_3 (dk_at dksX1_bestSite_0 16 rfl rfl)
theorem dX1_bestSite_17 : decode cX1_bestSite 17 = .ok (.istore_n 3, 1) := dk_62 (dk_at dksX1_bestSite_0 17 rfl rfl)
theorem dX1_bestSite_18 : decode cX1_bestSite 18 = .ok (.iconst 0, 1) := dk_3 (dk_at dksX1_bestSite_0 18 rfl rfl)
theorem dX1_bestSite_19 : decode cX1_bestSite 19 = .ok (.istore 4, 2) := dk_54 4 (dk_at dksX1_bestSite_0 19 rfl rfl)
theorem dX1_bestSite_21 : decode cX1_bestSite 21 = .ok (.iload 4, 2) := dk_21 4 (dk_at dksX1_bestSite_0 21 rfl rfl)
theorem dX1_bestSite_23 : decode cX1_bestSite 23 = .ok (.sipush 900, 3) := dk_17 3 132 (dk_at dksX1_bestSite_1 0 rfl rfl)
theorem dX1_bestSite_26 : decode cX1_bestSite 26 = .ok (.if_icmp .ge 73, 3) := dk_162 0 73 (dk_at dksX1_bestSite_1 3 rfl rfl)
theorem dX1_bestSite_29 : decode cX1_bestSite 29 = .ok (.aload_n 0, 1) := dk_42 (dk_at dksX1_bestSite_1 6 rfl rfl)
theorem dX1_bestSite_30 : decode cX1_bestSite 30 = .ok (.getfield 39, 3) := dk_180 0 39 (dk_at dksX1_bestSite_1 7 rfl rfl)
theorem dX1_bestSite_33 : decode cX1_bestSite 33 = .ok (.getfield 171, 3) := dk_180 0 171 (dk_at dksX1_bestSite_1 10 rfl rfl)
theorem dX1_bestSite_36 : decode cX1_bestSite 36 = .ok (.getfield 175, 3) := dk_180 0 175 (dk_at dksX1_bestSite_1 13 rfl rfl)
theorem dX1_bestSite_39 : decode cX1_bestSite 39 = .ok (.iload 4, 2) := dk_21 4 (dk_at dksX1_bestSite_1 16 rfl rfl)
theorem dX1_bestSite_41 : decode cX1_bestSite 41 = .ok (.baload, 1) := dk_51 (dk_at dksX1_bestSite_1 18 rfl rfl)
theorem dX1_bestSite_42 : decode cX1_bestSite 42 = .ok (.iload_n 1, 1) := dk_27 (dk_at dksX1_bestSite_1 19 rfl rfl)
theorem dX1_bestSite_43 : decode cX1_bestSite 43 = .ok (.if_icmp .ne 50, 3) := dk_160 0 50 (dk_at dksX1_bestSite_1 20 rfl rfl)
theorem dX1_bestSite_46 : decode cX1_bestSite 46 = .ok (.aload_n 0, 1) := dk_42 (dk_at dksX1_bestSite_1 23 rfl rfl)
theorem dX1_bestSite_47 : decode cX1_bestSite 47 = .ok (.getfield 39, 3) := dk_180 0 39 (dk_at dksX1_bestSite_2 0 rfl rfl)
theorem dX1_bestSite_50 : decode cX1_bestSite 50 = .ok (.iload 4, 2) := dk_21 4 (dk_at dksX1_bestSite_2 3 rfl rfl)
theorem dX1_bestSite_52 : decode cX1_bestSite 52 = .ok (.invokevirtual 203, 3) := dk_182 0 203 (dk_at dksX1_bestSite_2 5 rfl rfl)
theorem dX1_bestSite_55 : decode cX1_bestSite 55 = .ok (.ifCond .eq 6, 3) := dk_153 0 6 (dk_at dksX1_bestSite_2 8 rfl rfl)
theorem dX1_bestSite_58 : decode cX1_bestSite 58 = .ok (.goto 35, 3) := dk_167 0 35 (dk_at dksX1_bestSite_2 11 rfl rfl)
theorem dX1_bestSite_61 : decode cX1_bestSite 61 = .ok (.aload_n 0, 1) := dk_42 (dk_at dksX1_bestSite_2 14 rfl rfl)
theorem dX1_bestSite_62 : decode cX1_bestSite 62 = .ok (.getfield 39, 3) := dk_180 0 39 (dk_at dksX1_bestSite_2 15 rfl rfl)
theorem dX1_bestSite_65 : decode cX1_bestSite 65 = .ok (.iload 4, 2) := dk_21 4 (dk_at dksX1_bestSite_2 18 rfl rfl)
theorem dX1_bestSite_67 : decode cX1_bestSite 67 = .ok (.iconst (-1), 1) := dk_2 (dk_at dksX1_bestSite_2 20 rfl rfl)
theorem dX1_bestSite_68 : decode cX1_bestSite 68 = .ok (.invokevirtual 232, 3) := dk_182 0 232 (dk_at dksX1_bestSite_2 21 rfl rfl)
theorem dX1_bestSite_71 : decode cX1_bestSite 71 = .ok (.istore 5, 2) := dk_54 5 (dk_at dksX1_bestSite_3 0 rfl rfl)
theorem dX1_bestSite_73 : decode cX1_bestSite 73 = .ok (.iload_n 2, 1) := dk_28 (dk_at dksX1_bestSite_3 2 rfl rfl)
theorem dX1_bestSite_74 : decode cX1_bestSite 74 = .ok (.iconst (-1), 1) := dk_2 (dk_at dksX1_bestSite_3 3 rfl rfl)
theorem dX1_bestSite_75 : decode cX1_bestSite 75 = .ok (.if_icmp .eq 12, 3) := dk_159 0 12 (dk_at dksX1_bestSite_3 4 rfl rfl)
theorem dX1_bestSite_78 : decode cX1_bestSite 78 = .ok (.iload 5, 2) := dk_21 5 (dk_at dksX1_bestSite_3 7 rfl rfl)
theorem dX1_bestSite_80 : decode cX1_bestSite 80 = .ok (.iload_n 3, 1) := dk_29 (dk_at dksX1_bestSite_3 9 rfl rfl)
theorem dX1_bestSite_81 : decode cX1_bestSite 81 = .ok (.if_icmp .gt 6, 3) := dk_163 0 6 (dk_at dksX1_bestSite_3 10 rfl rfl)
theorem dX1_bestSite_84 : decode cX1_bestSite 84 = .ok (.goto 9, 3) := dk_167 0 9 (dk_at dksX1_bestSite_3 13 rfl rfl)
theorem dX1_bestSite_87 : decode cX1_bestSite 87 = .ok (.iload 4, 2) := dk_21 4 (dk_at dksX1_bestSite_3 16 rfl rfl)
theorem dX1_bestSite_89 : decode cX1_bestSite 89 = .ok (.istore_n 2, 1) := dk_61 (dk_at dksX1_bestSite_3 18 rfl rfl)
theorem dX1_bestSite_90 : decode cX1_bestSite 90 = .ok (.iload 5, 2) := dk_21 5 (dk_at dksX1_bestSite_3 19 rfl rfl)
theorem dX1_bestSite_92 : decode cX1_bestSite 92 = .ok (.istore_n 3, 1) := dk_62 (dk_at dksX1_bestSite_3 21 rfl rfl)
theorem dX1_bestSite_93 : decode cX1_bestSite 93 = .ok (.iinc 4 1, 3) := dk_132 4 1 (dk_at dksX1_bestSite_4 0 rfl rfl)
theorem dX1_bestSite_96 : decode cX1_bestSite 96 = .ok (.goto (-75), 3) := dk_167 255 181 (dk_at dksX1_bestSite_4 3 rfl rfl)
theorem dX1_bestSite_99 : decode cX1_bestSite 99 = .ok (.iload_n 2, 1) := dk_28 (dk_at dksX1_bestSite_4 6 rfl rfl)
theorem dX1_bestSite_100 : decode cX1_bestSite 100 = .ok (.iconst (-1), 1) := dk_2 (dk_at dksX1_bestSite_4 7 rfl rfl)
theorem dX1_bestSite_101 : decode cX1_bestSite 101 = .ok (.if_icmp .ne 7, 3) := dk_160 0 7 (dk_at dksX1_bestSite_4 8 rfl rfl)
theorem dX1_bestSite_104 : decode cX1_bestSite 104 = .ok (.iconst (-1), 1) := dk_2 (dk_at dksX1_bestSite_4 11 rfl rfl)
theorem dX1_bestSite_105 : decode cX1_bestSite 105 = .ok (.goto 7, 3) := dk_167 0 7 (dk_at dksX1_bestSite_4 12 rfl rfl)
theorem dX1_bestSite_108 : decode cX1_bestSite 108 = .ok (.iload_n 2, 1) := dk_28 (dk_at dksX1_bestSite_4 15 rfl rfl)
theorem dX1_bestSite_109 : decode cX1_bestSite 109 = .ok (.invokestatic 131, 3) := dk_184 0 131 (dk_at dksX1_bestSite_4 16 rfl rfl)
theorem dX1_bestSite_112 : decode cX1_bestSite 112 = .ok (.ireturn, 1) := dk_172 (dk_at dksX1_bestSite_4 19 rfl rfl)
abbrev cX1_coverage : ByteArray := prog_1_method_39_code
def yX1_coverage : MethodName := ⟨RX1, "coverage", "(II)I"⟩
def dkwX1_coverage_3 : List UInt8 := [182, 0, 232, 28, 163, 0, 7, 4, 167, 0, 4, 3, 96, 62, 132, 4, 1, 167, 255, 206, 29, 172]
abbrev dktX1_coverage_3 : List UInt8 := dkwX1_coverage_3 ++ []
def dkwX1_coverage_2 : List UInt8 := [42, 180, 0, 39, 180, 0, 171, 180, 0, 175, 21, 4, 51, 27, 160, 0, 21, 42, 180, 0, 39, 21, 4, 27]
abbrev dktX1_coverage_2 : List UInt8 := dkwX1_coverage_2 ++ dktX1_coverage_3
def dkwX1_coverage_1 : List UInt8 := [20, 0, 235, 184, 0, 84, 84, 184, 0, 168, 3, 62, 3, 54, 4, 21, 4, 17, 3, 132, 162, 0, 48, 29]
abbrev dktX1_coverage_1 : List UInt8 := dkwX1_coverage_1 ++ dktX1_coverage_2
def dkwX1_coverage_0 : List UInt8 := [4, 188, 4, 89, 3, 42, 27, 182, 0, 88, 84, 184, 0, 92, 4, 188, 4, 89, 3, 28, 133, 9]
abbrev dktX1_coverage_0 : List UInt8 := dkwX1_coverage_0 ++ dktX1_coverage_1
theorem dksX1_coverage_0 : cX1_coverage.data.toList.drop 0 = dktX1_coverage_0 := by decide +kernel
theorem dksX1_coverage_1 : cX1_coverage.data.toList.drop 22 = dktX1_coverage_1 := dk_seg dksX1_coverage_0 22 rfl rfl
theorem dksX1_coverage_2 : cX1_coverage.data.toList.drop 46 = dktX1_coverage_2 := dk_seg dksX1_coverage_1 24 rfl rfl
theorem dksX1_coverage_3 : cX1_coverage.data.toList.drop 70 = dktX1_coverage_3 := dk_seg dksX1_coverage_2 24 rfl rfl
theorem dX1_coverage_0 : decode cX1_coverage 0 = .ok (.iconst 1, 1) := dk_4 (dk_at dksX1_coverage_0 0 rfl rfl)
theorem dX1_coverage_1 : decode cX1_coverage 1 = .ok (.newarray .boolean, 2) := dk_188_4 (dk_at dksX1_coverage_0 1 rfl rfl)
theorem dX1_coverage_3 : decode cX1_coverage 3 = .ok (.dup, 1) := dk_89 (dk_at dksX1_coverage_0 3 rfl rfl)
theorem dX1_coverage_4 : decode cX1_coverage 4 = .ok (.iconst 0, 1) := dk_3 (dk_at dksX1_coverage_0 4 rfl rfl)
theorem dX1_coverage_5 : decode cX1_coverage 5 = .ok (.aload_n 0, 1) := dk_42 (dk_at dksX1_coverage_0 5 rfl rfl)
theorem dX1_coverage_6 : decode cX1_coverage 6 = .ok (.iload_n 1, 1) := dk_27 (dk_at dksX1_coverage_0 6 rfl rfl)
theorem dX1_coverage_7 : decode cX1_coverage 7 = .ok (.invokevirtual 88, 3) := dk_182 0 88 (dk_at dksX1_coverage_0 7 rfl rfl)
theorem dX1_coverage_10 : decode cX1_coverage 10 = .ok (.bastore, 1) := dk_84 (dk_at dksX1_coverage_0 10 rfl rfl)
theorem dX1_coverage_11 : decode cX1_coverage 11 = .ok (.invokestatic 92, 3) := dk_184 0 92 (dk_at dksX1_coverage_0 11 rfl rfl)
theorem dX1_coverage_14 : decode cX1_coverage 14 = .ok (.iconst 1, 1) := dk_4 (dk_at dksX1_coverage_0 14 rfl rfl)
theorem dX1_coverage_15 : decode cX1_coverage 15 = .ok (.newarray .boolean, 2) := dk_188_4 (dk_at dksX1_coverage_0 15 rfl rfl)
theorem dX1_coverage_17 : decode cX1_coverage 17 = .ok (.dup, 1) := dk_89 (dk_at dksX1_coverage_0 17 rfl rfl)
theorem dX1_coverage_18 : decode cX1_coverage 18 = .ok (.iconst 0, 1) := dk_3 (dk_at dksX1_coverage_0 18 rfl rfl)
theorem dX1_coverage_19 : decode cX1_coverage 19 = .ok (.iload_n 2, 1) := dk_28 (dk_at dksX1_coverage_0 19 rfl rfl)
theorem dX1_coverage_20 : decode cX1_coverage 20 = .ok (.i2l, 1) := dk_133 (dk_at dksX1_coverage_0 20 rfl rfl)
theorem dX1_coverage_21 : decode cX1_coverage 21 = .ok (.lconst 0, 1) := dk_9 (dk_at dksX1_coverage_0 21 rfl rfl)
theorem dX1_coverage_22 : decode cX1_coverage 22 = .ok (.ldc2_w 235, 3) := dk_20 0 235 (dk_at dksX1_coverage_1 0 rfl rfl)
theorem dX1_coverage_25 : decode cX1_coverage 25 = .ok (.invokestatic 84, 3) := dk_184 0 84 (dk_at dksX1_coverage_1 3 rfl rfl)
theorem dX1_coverage_28 : decode cX1_coverage 28 = .ok (.bastore, 1) := dk_84 (dk_at dksX1_coverage_1 6 rfl rfl)
theorem dX1_coverage_29 : decode cX1_coverage 29 = .ok (.invokestatic 168, 3) := dk_184 0 168 (dk_at dksX1_coverage_1 7 rfl rfl)
theorem dX1_coverage_32 : decode cX1_coverage 32 = .ok (.iconst 0, 1) := dk_3 (dk_at dksX1_coverage_1 10 rfl rfl)
theorem dX1_coverage_33 : decode cX1_coverage 33 = .ok (.istore_n 3, 1) := dk_62 (dk_at dksX1_coverage_1 11 rfl rfl)
theorem dX1_coverage_34 : decode cX1_coverage 34 = .ok (.iconst 0, 1) := dk_3 (dk_at dksX1_coverage_1 12 rfl rfl)
theorem dX1_coverage_35 : decode cX1_coverage 35 = .ok (.istore 4, 2) := dk_54 4 (dk_at dksX1_coverage_1 13 rfl rfl)
theorem dX1_coverage_37 : decode cX1_coverage 37 = .ok (.iload 4, 2) := dk_21 4 (dk_at dksX1_coverage_1 15 rfl rfl)
theorem dX1_coverage_39 : decode cX1_coverage 39 = .ok (.sipush 900, 3) := dk_17 3 132 (dk_at dksX1_coverage_1 17 rfl rfl)
theorem dX1_coverage_42 : decode cX1_coverage 42 = .ok (.if_icmp .ge 48, 3) := dk_162 0 48 (dk_at dksX1_coverage_1 20 rfl rfl)
theorem dX1_coverage_45 : decode cX1_coverage 45 = .ok (.iload_n 3, 1) := dk_29 (dk_at dksX1_coverage_1 23 rfl rfl)
theorem dX1_coverage_46 : decode cX1_coverage 46 = .ok (.aload_n 0, 1) := dk_42 (dk_at dksX1_coverage_2 0 rfl rfl)
theorem dX1_coverage_47 : decode cX1_coverage 47 = .ok (.getfield 39, 3) := dk_180 0 39 (dk_at dksX1_coverage_2 1 rfl rfl)
theorem dX1_coverage_50 : decode cX1_coverage 50 = .ok (.getfield 171, 3) := dk_180 0 171 (dk_at dksX1_coverage_2 4 rfl rfl)
theorem dX1_coverage_53 : decode cX1_coverage 53 = .ok (.getfield 175, 3) := dk_180 0 175 (dk_at dksX1_coverage_2 7 rfl rfl)
theorem dX1_coverage_56 : decode cX1_coverage 56 = .ok (.iload 4, 2) := dk_21 4 (dk_at dksX1_coverage_2 10 rfl rfl)
theorem dX1_coverage_58 : decode cX1_coverage 58 = .ok (.baload, 1) := dk_51 (dk_at dksX1_coverage_2 12 rfl rfl)
theorem dX1_coverage_59 : decode cX1_coverage 59 = .ok (.iload_n 1, 1) := dk_27 (dk_at dksX1_coverage_2 13 rfl rfl)
theorem dX1_coverage_60 : decode cX1_coverage 60 = .ok (.if_icmp .ne 21, 3) := dk_160 0 21 (dk_at dksX1_coverage_2 14 rfl rfl)
theorem dX1_coverage_63 : decode cX1_coverage 63 = .ok (.aload_n 0, 1) := dk_42 (dk_at dksX1_coverage_2 17 rfl rfl)
theorem dX1_coverage_64 : decode cX1_coverage 64 = .ok (.getfield 39, 3) := dk_180 0 39 (dk_at dksX1_coverage_2 18 rfl rfl)
theorem dX1_coverage_67 : decode cX1_coverage 67 = .ok (.iload 4, 2) := dk_21 4 (dk_at dksX1_coverage_2 21 rfl rfl)
theorem dX1_coverage_69 : decode cX1_coverage 69 = .ok (.iload_n 1, 1) := dk_27 (dk_at dksX1_coverage_2 23 rfl rfl)
theorem dX1_coverage_70 : decode cX1_coverage 70 = .ok (.invokevirtual 232, 3) := dk_182 0 232 (dk_at dksX1_coverage_3 0 rfl rfl)
theorem dX1_coverage_73 : decode cX1_coverage 73 = .ok (.iload_n 2, 1) := dk_28 (dk_at dksX1_coverage_3 3 rfl rfl)
theorem dX1_coverage_74 : decode cX1_coverage 74 = .ok (.if_icmp .gt 7, 3) := dk_163 0 7 (dk_at dksX1_coverage_3 4 rfl rfl)
theorem dX1_coverage_77 : decode cX1_coverage 77 = .ok (.iconst 1, 1) := dk_4 (dk_at dksX1_coverage_3 7 rfl rfl)
theorem dX1_coverage_78 : decode cX1_coverage 78 = .ok (.goto 4, 3) := dk_167 0 4 (dk_at dksX1_coverage_3 8 rfl rfl)
theorem dX1_coverage_81 : decode cX1_coverage 81 = .ok (.iconst 0, 1) := dk_3 (dk_at dksX1_coverage_3 11 rfl rfl)
theorem dX1_coverage_82 : decode cX1_coverage 82 = .ok (.iadd, 1) := dk_96 (dk_at dksX1_coverage_3 12 rfl rfl)
theorem dX1_coverage_83 : decode cX1_coverage 83 = .ok (.istore_n 3, 1) := dk_62 (dk_at dksX1_coverage_3 13 rfl rfl)
theorem dX1_coverage_84 : decode cX1_coverage 84 = .ok (.iinc 4 1, 3) := dk_132 4 1 (dk_at dksX1_coverage_3 14 rfl rfl)
theorem dX1_coverage_87 : decode cX1_coverage 87 = .ok (.goto (-50), 3) := dk_167 255 206 (dk_at dksX1_coverage_3 17 rfl rfl)
theorem dX1_coverage_90 : decode cX1_coverage 90 = .ok (.iload_n 3, 1) := dk_29 (dk_at dksX1_coverage_3 20 rfl rfl)
theorem dX1_coverage_91 : decode cX1_coverage 91 = .ok (.ireturn, 1) := dk_172 (dk_at dksX1_coverage_3 21 rfl rfl)
abbrev cX1_rivalCells : ByteArray := prog_1_method_40_code
def yX1_rivalCells : MethodName := ⟨RX1, "rivalCells", "(II)I"⟩
def dkwX1_rivalCells_4 : List UInt8 := [162, 0, 7, 4, 167, 0, 4, 3, 96, 62, 132, 4, 1, 167, 255, 197, 29, 172]
abbrev dktX1_rivalCells_4 : List UInt8 := dkwX1_rivalCells_4 ++ []
def dkwX1_rivalCells_3 : List UInt8 := [160, 0, 30, 42, 180, 0, 39, 21, 4, 28, 182, 0, 232, 42, 180, 0, 39, 21, 4, 27, 182, 0, 232]
abbrev dktX1_rivalCells_3 : List UInt8 := dkwX1_rivalCells_3 ++ dktX1_rivalCells_4
def dkwX1_rivalCells_2 : List UInt8 := [21, 4, 17, 3, 132, 162, 0, 57, 29, 42, 180, 0, 39, 180, 0, 171, 180, 0, 175, 21, 4, 51, 27]
abbrev dktX1_rivalCells_2 : List UInt8 := dkwX1_rivalCells_2 ++ dktX1_rivalCells_3
def dkwX1_rivalCells_1 : List UInt8 := [188, 4, 89, 3, 27, 28, 159, 0, 7, 4, 167, 0, 4, 3, 84, 184, 0, 168, 3, 62, 3, 54, 4]
abbrev dktX1_rivalCells_1 : List UInt8 := dkwX1_rivalCells_1 ++ dktX1_rivalCells_2
def dkwX1_rivalCells_0 : List UInt8 := [5, 188, 4, 89, 3, 42, 27, 182, 0, 88, 84, 89, 4, 42, 28, 182, 0, 88, 84, 184, 0, 92, 4]
abbrev dktX1_rivalCells_0 : List UInt8 := dkwX1_rivalCells_0 ++ dktX1_rivalCells_1
theorem dksX1_rivalCells_0 : cX1_rivalCells.data.toList.drop 0 = dktX1_rivalCells_0 := by decide +kernel
theorem dksX1_rivalCells_1 : cX1_rivalCells.data.toList.drop 23 = dktX1_rivalCells_1 := dk_seg dksX1_rivalCells_0 23 rfl rfl
theorem dksX1_rivalCells_2 : cX1_rivalCells.data.toList.drop 46 = dktX1_rivalCells_2 := dk_seg dksX1_rivalCells_1 23 rfl rfl
theorem dksX1_rivalCells_3 : cX1_rivalCells.data.toList.drop 69 = dktX1_rivalCells_3 := dk_seg dksX1_rivalCells_2 23 rfl rfl
theorem dksX1_rivalCells_4 : cX1_rivalCells.data.toList.drop 92 = dktX1_rivalCells_4 := dk_seg dksX1_rivalCells_3 23 rfl rfl
theorem dX1_rivalCells_0 : decode cX1_rivalCells 0 = .ok (.iconst 2, 1) := dk_5 (dk_at dksX1_rivalCells_0 0 rfl rfl)
theorem dX1_rivalCells_1 : decode cX1_rivalCells 1 = .ok (.newarray .boolean, 2) := dk_188_4 (dk_at dksX1_rivalCells_0 1 rfl rfl)
theorem dX1_rivalCells_3 : decode cX1_rivalCells 3 = .ok (.dup, 1) := dk_89 (dk_at dksX1_rivalCells_0 3 rfl rfl)
theorem dX1_rivalCells_4 : decode cX1_rivalCells 4 = .ok (.iconst 0, 1) := dk_3 (dk_at dksX1_rivalCells_0 4 rfl rfl)
theorem dX1_rivalCells_5 : decode cX1_rivalCells 5 = .ok (.aload_n 0, 1) := dk_42 (dk_at dksX1_rivalCells_0 5 rfl rfl)
theorem dX1_rivalCells_6 : decode cX1_rivalCells 6 = .ok (.iload_n 1, 1) := dk_27 (dk_at dksX1_rivalCells_0 6 rfl rfl)
theorem dX1_rivalCells_7 : decode cX1_rivalCells 7 = .ok (.invokevirtual 88, 3) := dk_182 0 88 (dk_at dksX1_rivalCells_0 7 rfl rfl)
theorem dX1_rivalCells_10 : decode cX1_rivalCells 10 = .ok (.bastore, 1) := dk_84 (dk_at dksX1_rivalCells_0 10 rfl rfl)
theorem dX1_rivalCells_11 : decode cX1_rivalCells 11 = .ok (.dup, 1) := dk_89 (dk_at dksX1_rivalCells_0 11 rfl rfl)
theorem dX1_rivalCells_12 : decode cX1_rivalCells 12 = .ok (.iconst 1, 1) := dk_4 (dk_at dksX1_rivalCells_0 12 rfl rfl)
theorem dX1_rivalCells_13 : decode cX1_rivalCells 13 = .ok (.aload_n 0, 1) := dk_42 (dk_at dksX1_rivalCells_0 13 rfl rfl)
theorem dX1_rivalCells_14 : decode cX1_rivalCells 14 = .ok (.iload_n 2, 1) := dk_28 (dk_at dksX1_rivalCells_0 14 rfl rfl)
theorem dX1_rivalCells_15 : decode cX1_rivalCells 15 = .ok (.invokevirtual 88, 3) := dk_182 0 88 (dk_at dksX1_rivalCells_0 15 rfl rfl)
theorem dX1_rivalCells_18 : decode cX1_rivalCells 18 = .ok (.bastore, 1) := dk_84 (dk_at dksX1_rivalCells_0 18 rfl rfl)
theorem dX1_rivalCells_19 : decode cX1_rivalCells 19 = .ok (.invokestatic 92, 3) := dk_184 0 92 (dk_at dksX1_rivalCells_0 19 rfl rfl)
theorem dX1_rivalCells_22 : decode cX1_rivalCells 22 = .ok (.iconst 1, 1) := dk_4 (dk_at dksX1_rivalCells_0 22 rfl rfl)
theorem dX1_rivalCells_23 : decode cX1_rivalCells 23 = .ok (.newarray .boolean, 2) := dk_188_4 (dk_at dksX1_rivalCells_1 0 rfl rfl)
theorem dX1_rivalCells_25 : decode cX1_rivalCells 25 = .ok (.dup, 1) := dk_89 (dk_at dksX1_rivalCells_1 2 rfl rfl)
theorem dX1_rivalCells_26 : decode cX1_rivalCells 26 = .ok (.iconst 0, 1) := dk_3 (dk_at dksX1_rivalCells_1 3 rfl rfl)
theorem dX1_rivalCells_27 : decode cX1_rivalCells 27 = .ok (.iload_n 1, 1) := dk_27 (dk_at dksX1_rivalCells_1 4 rfl rfl)
theorem dX1_rivalCells_28 : decode cX1_rivalCells 28 = .ok (.iload_n 2, 1) := dk_28 (dk_at dksX1_rivalCells_1 5 rfl rfl)
theorem dX1_rivalCells_29 : decode cX1_rivalCells 29 = .ok (.if_icmp .eq 7, 3) := dk_159 0 7 (dk_at dksX1_rivalCells_1 6 rfl rfl)
theorem dX1_rivalCells_32 : decode cX1_rivalCells 32 = .ok (.iconst 1, 1) := dk_4 (dk_at dksX1_rivalCells_1 9 rfl rfl)
theorem dX1_rivalCells_33 : decode cX1_rivalCells 33 = .ok (.goto 4, 3) := dk_167 0 4 (dk_at dksX1_rivalCells_1 10 rfl rfl)
theorem dX1_rivalCells_36 : decode cX1_rivalCells 36 = .ok (.iconst 0, 1) := dk_3 (dk_at dksX1_rivalCells_1 13 rfl rfl)
theorem dX1_rivalCells_37 : decode cX1_rivalCells 37 = .ok (.bastore, 1) := dk_84 (dk_at dksX1_rivalCells_1 14 rfl rfl)
theorem dX1_rivalCells_38 : decode cX1_rivalCells 38 = .ok (.invokestatic 168, 3) := dk_184 0 168 (dk_at dksX1_rivalCells_1 15 rfl rfl)
theorem dX1_rivalCells_41 : decode cX1_rivalCells 41 = .ok (.iconst 0, 1) := dk_3 (dk_at dksX1_rivalCells_1 18 rfl rfl)
theorem dX1_rivalCells_42 : decode cX1_rivalCells 42 = .ok (.istore_n 3, 1) := dk_62 (dk_at dksX1_rivalCells_1 19 rfl rfl)
theorem dX1_rivalCells_43 : decode cX1_rivalCells 43 = .ok (.iconst 0, 1) := dk_3 (dk_at dksX1_rivalCells_1 20 rfl rfl)
theorem dX1_rivalCells_44 : decode cX1_rivalCells 44 = .ok (.istore 4, 2) := dk_54 4 (dk_at dksX1_rivalCells_1 21 rfl rfl)
theorem dX1_rivalCells_46 : decode cX1_rivalCells 46 = .ok (.iload 4, 2) := dk_21 4 (dk_at dksX1_rivalCells_2 0 rfl rfl)
theorem dX1_rivalCells_48 : decode cX1_rivalCells 48 = .ok (.sipush 900, 3) := dk_17 3 132 (dk_at dksX1_rivalCells_2 2 rfl rfl)
theorem dX1_rivalCells_51 : decode cX1_rivalCells 51 = .ok (.if_icmp .ge 57, 3) := dk_162 0 57 (dk_at dksX1_rivalCells_2 5 rfl rfl)
theorem dX1_rivalCells_54 : decode cX1_rivalCells 54 = .ok (.iload_n 3, 1) := dk_29 (dk_at dksX1_rivalCells_2 8 rfl rfl)
theorem dX1_rivalCells_55 : decode cX1_rivalCells 55 = .ok (.aload_n 0, 1) := dk_42 (dk_at dksX1_rivalCells_2 9 rfl rfl)
theorem dX1_rivalCells_56 : decode cX1_rivalCells 56 = .ok (.getfield 39, 3) := dk_180 0 39 (dk_at dksX1_rivalCells_2 10 rfl rfl)
theorem dX1_rivalCells_59 : decode cX1_rivalCells 59 = .ok (.getfield 171, 3) := dk_180 0 171 (dk_at dksX1_rivalCells_2 13 rfl rfl)
theorem dX1_rivalCells_62 : decode cX1_rivalCells 62 = .ok (.getfield 175, 3) := dk_180 0 175 (dk_at dksX1_rivalCells_2 16 rfl rfl)
theorem dX1_rivalCells_65 : decode cX1_rivalCells 65 = .ok (.iload 4, 2) := dk_21 4 (dk_at dksX1_rivalCells_2 19 rfl rfl)
theorem dX1_rivalCells_67 : decode cX1_rivalCells 67 = .ok (.baload, 1) := dk_51 (dk_at dksX1_rivalCells_2 21 rfl rfl)
theorem dX1_rivalCells_68 : decode cX1_rivalCells 68 = .ok (.iload_n 1, 1) := dk_27 (dk_at dksX1_rivalCells_2 22 rfl rfl)
theorem dX1_rivalCells_69 : decode cX1_rivalCells 69 = .ok (.if_icmp .ne 30, 3) := dk_160 0 30 (dk_at dksX1_rivalCells_3 0 rfl rfl)
theorem dX1_rivalCells_72 : decode cX1_rivalCells 72 = .ok (.aload_n 0, 1) := dk_42 (dk_at dksX1_rivalCells_3 3 rfl rfl)
theorem dX1_rivalCells_73 : decode cX1_rivalCells 73 = .ok (.getfield 39, 3) := dk_180 0 39 (dk_at dksX1_rivalCells_3 4 rfl rfl)
theorem dX1_rivalCells_76 : decode cX1_rivalCells 76 = .ok (.iload 4, 2) := dk_21 4 (dk_at dksX1_rivalCells_3 7 rfl rfl)
theorem dX1_rivalCells_78 : decode cX1_rivalCells 78 = .ok (.iload_n 2, 1) := dk_28 (dk_at dksX1_rivalCells_3 9 rfl rfl)
theorem dX1_rivalCells_79 : decode cX1_rivalCells 79 = .ok (.invokevirtual 232, 3) := dk_182 0 232 (dk_at dksX1_rivalCells_3 10 rfl rfl)
theorem dX1_rivalCells_82 : decode cX1_rivalCells 82 = .ok (.aload_n 0, 1) := dk_42 (dk_at dksX1_rivalCells_3 13 rfl rfl)
theorem dX1_rivalCells_83 : decode cX1_rivalCells 83 = .ok (.getfield 39, 3) := dk_180 0 39 (dk_at dksX1_rivalCells_3 14 rfl rfl)
theorem dX1_rivalCells_86 : decode cX1_rivalCells 86 = .ok (.iload 4, 2) := dk_21 4 (dk_at dksX1_rivalCells_3 17 rfl rfl)
theorem dX1_rivalCells_88 : decode cX1_rivalCells 88 = .ok (.iload_n 1, 1) := dk_27 (dk_at dksX1_rivalCells_3 19 rfl rfl)
theorem dX1_rivalCells_89 : decode cX1_rivalCells 89 = .ok (.invokevirtual 232, 3) := dk_182 0 232 (dk_at dksX1_rivalCells_3 20 rfl rfl)
theorem dX1_rivalCells_92 : decode cX1_rivalCells 92 = .ok (.if_icmp .ge 7, 3) := dk_162 0 7 (dk_at dksX1_rivalCells_4 0 rfl rfl)
theorem dX1_rivalCells_95 : decode cX1_rivalCells 95 = .ok (.iconst 1, 1) := dk_4 (dk_at dksX1_rivalCells_4 3 rfl rfl)
theorem dX1_rivalCells_96 : decode cX1_rivalCells 96 = .ok (.goto 4, 3) := dk_167 0 4 (dk_at dksX1_rivalCells_4 4 rfl rfl)
theorem dX1_rivalCells_99 : decode cX1_rivalCells 99 = .ok (.iconst 0, 1) := dk_3 (dk_at dksX1_rivalCells_4 7 rfl rfl)
theorem dX1_rivalCells_100 : decode cX1_rivalCells 100 = .ok (.iadd, 1) := dk_96 (dk_at dksX1_rivalCells_4 8 rfl rfl)
theorem dX1_rivalCells_101 : decode cX1_rivalCells 101 = .ok (.istore_n 3, 1) := dk_62 (dk_at dksX1_rivalCells_4 9 rfl rfl)
theorem dX1_rivalCells_102 : decode cX1_rivalCells 102 = .ok (.iinc 4 1, 3) := dk_132 4 1 (dk_at dksX1_rivalCells_4 10 rfl rfl)
theorem dX1_rivalCells_105 : decode cX1_rivalCells 105 = .ok (.goto (-59), 3) := dk_167 255 197 (dk_at dksX1_rivalCells_4 13 rfl rfl)
theorem dX1_rivalCells_108 : decode cX1_rivalCells 108 = .ok (.iload_n 3, 1) := dk_29 (dk_at dksX1_rivalCells_4 16 rfl rfl)
theorem dX1_rivalCells_109 : decode cX1_rivalCells 109 = .ok (.ireturn, 1) := dk_172 (dk_at dksX1_rivalCells_4 17 rfl rfl)
abbrev cX1_halvingLine : ByteArray := prog_1_method_42_code
def yX1_halvingLine : MethodName := ⟨RX1, "halvingLine", "(I)I"⟩
def dkwX1_halvingLine_4 : List UInt8 := [172]
abbrev dktX1_halvingLine_4 : List UInt8 := dkwX1_halvingLine_4 ++ []
def dkwX1_halvingLine_3 : List UInt8 := [153, 0, 8, 21, 6, 167, 0, 8, 16, 100, 21, 6, 96, 61, 21, 7, 62, 132, 4, 1, 167, 255, 184, 28]
abbrev dktX1_halvingLine_3 : List UInt8 := dkwX1_halvingLine_3 ++ dktX1_halvingLine_4
def dkwX1_halvingLine_2 : List UInt8 := [54, 6, 42, 27, 21, 6, 21, 5, 182, 0, 238, 54, 7, 21, 7, 29, 161, 0, 6, 167, 0, 22, 21, 5]
abbrev dktX1_halvingLine_2 : List UInt8 := dkwX1_halvingLine_2 ++ dktX1_halvingLine_3
def dkwX1_halvingLine_1 : List UInt8 := [162, 0, 71, 21, 4, 16, 29, 162, 0, 7, 4, 167, 0, 4, 3, 54, 5, 21, 4, 16, 29, 112, 4, 96]
abbrev dktX1_halvingLine_1 : List UInt8 := dkwX1_halvingLine_1 ++ dktX1_halvingLine_2
def dkwX1_halvingLine_0 : List UInt8 := [42, 27, 182, 0, 237, 154, 0, 5, 2, 172, 2, 61, 17, 3, 133, 62, 3, 54, 4, 21, 4, 16, 58]
abbrev dktX1_halvingLine_0 : List UInt8 := dkwX1_halvingLine_0 ++ dktX1_halvingLine_1
theorem dksX1_halvingLine_0 : cX1_halvingLine.data.toList.drop 0 = dktX1_halvingLine_0 := by decide +kernel
theorem dksX1_halvingLine_1 : cX1_halvingLine.data.toList.drop 23 = dktX1_halvingLine_1 := dk_seg dksX1_halvingLine_0 23 rfl rfl
theorem dksX1_halvingLine_2 : cX1_halvingLine.data.toList.drop 47 = dktX1_halvingLine_2 := dk_seg dksX1_halvingLine_1 24 rfl rfl
theorem dksX1_halvingLine_3 : cX1_halvingLine.data.toList.drop 71 = dktX1_halvingLine_3 := dk_seg dksX1_halvingLine_2 24 rfl rfl
theorem dksX1_halvingLine_4 : cX1_halvingLine.data.toList.drop 95 = dktX1_halvingLine_4 := dk_seg dksX1_halvingLine_3 24 rfl rfl
theorem dX1_halvingLine_0 : decode cX1_halvingLine 0 = .ok (.aload_n 0, 1) := dk_42 (dk_at dksX1_halvingLine_0 0 rfl rfl)
theorem dX1_halvingLine_1 : decode cX1_halvingLine 1 = .ok (.iload_n 1, 1) := dk_27 (dk_at dksX1_halvingLine_0 1 rfl rfl)
theorem dX1_halvingLine_2 : decode cX1_halvingLine 2 = .ok (.invokevirtual 237, 3) := dk_182 0 237 (dk_at dksX1_halvingLine_0 2 rfl rfl)
theorem dX1_halvingLine_5 : decode cX1_halvingLine 5 = .ok (.ifCond .ne 5, 3) := dk_154 0 5 (dk_at dksX1_halvingLine_0 5 rfl rfl)
theorem dX1_halvingLine_8 : decode cX1_halvingLine 8 = .ok (.iconst (-1), 1) := dk_2 (dk_at dksX1_halvingLine_0 8 rfl rfl)
theorem dX1_halvingLine_9 : decode cX1_halvingLine 9 = .ok (.ireturn, 1) := dk_172 (dk_at dksX1_halvingLine_0 9 rfl rfl)
theorem dX1_halvingLine_10 : decode cX1_halvingLine 10 = .ok (.iconst (-1), 1) := dk_2 (dk_at dksX1_halvingLine_0 10 rfl rfl)
theorem dX1_halvingLine_11 : decode cX1_halvingLine 11 = .ok (.istore_n 2, 1) := dk_61 (dk_at dksX1_halvingLine_0 11 rfl rfl)
theorem dX1_halvingLine_12 : decode cX1_halvingLine 12 = .ok (.sipush 901, 3) := dk_17 3 133 (dk_at dksX1_halvingLine_0 12 rfl rfl)
theorem dX1_halvingLine_15 : decode cX1_halvingLine 15 = .ok (.istore_n 3, 1) := dk_62 (dk_at dksX1_halvingLine_0 15 rfl rfl)
theorem dX1_halvingLine_16 : decode cX1_halvingLine 16 = .ok (.iconst 0, 1) := dk_3 (dk_at dksX1_halvingLine_0 16 rfl rfl)
theorem dX1_halvingLine_17 : decode cX1_halvingLine 17 = .ok (.istore 4, 2) := dk_54 4 (dk_at dksX1_halvingLine_0 17 rfl rfl)
theorem dX1_halvingLine_19 : decode cX1_halvingLine 19 = .ok (.iload 4, 2) := dk_21 4 (dk_at dksX1_halvingLine_0 19 rfl rfl)
theorem dX1_halvingLine_21 : decode cX1_halvingLine 21 = .ok (.bipush 58, 2) := dk_16 58 (dk_at dksX1_halvingLine_0 21 rfl rfl)
theorem dX1_halvingLine_23 : decode cX1_halvingLine 23 = .ok (.if_icmp .ge 71, 3) := dk_162 0 71 (dk_at dksX1_halvingLine_1 0 rfl rfl)
theorem dX1_halvingLine_26 : decode cX1_halvingLine 26 = .ok (.iload 4, 2) := dk_21 4 (dk_at dksX1_halvingLine_1 3 rfl rfl)
theorem dX1_halvingLine_28 : decode cX1_halvingLine 28 = .ok (.bipush 29, 2) := dk_16 29 (dk_at dksX1_halvingLine_1 5 rfl rfl)
theorem dX1_halvingLine_30 : decode cX1_halvingLine 30 = .ok (.if_icmp .ge 7, 3) := dk_162 0 7 (dk_at dksX1_halvingLine_1 7 rfl rfl)
theorem dX1_halvingLine_33 : decode cX1_halvingLine 33 = .ok (.iconst 1, 1) := dk_4 (dk_at dksX1_halvingLine_1 10 rfl rfl)
theorem dX1_halvingLine_34 : decode cX1_halvingLine 34 = .ok (.goto 4, 3) := dk_167 0 4 (dk_at dksX1_halvingLine_1 11 rfl rfl)
theorem dX1_halvingLine_37 : decode cX1_halvingLine 37 = .ok (.iconst 0, 1) := dk_3 (dk_at dksX1_halvingLine_1 14 rfl rfl)
theorem dX1_halvingLine_38 : decode cX1_halvingLine 38 = .ok (.istore 5, 2) := dk_54 5 (dk_at dksX1_halvingLine_1 15 rfl rfl)
theorem dX1_halvingLine_40 : decode cX1_halvingLine 40 = .ok (.iload 4, 2) := dk_21 4 (dk_at dksX1_halvingLine_1 17 rfl rfl)
theorem dX1_halvingLine_42 : decode cX1_halvingLine 42 = .ok (.bipush 29, 2) := dk_16 29 (dk_at dksX1_halvingLine_1 19 rfl rfl)
theorem dX1_halvingLine_44 : decode cX1_halvingLine 44 = .ok (.irem, 1) := dk_112 (dk_at dksX1_halvingLine_1 21 rfl rfl)
theorem dX1_halvingLine_45 : decode cX1_halvingLine 45 = .ok (.iconst 1, 1) := dk_4 (dk_at dksX1_halvingLine_1 22 rfl rfl)
theorem dX1_halvingLine_46 : decode cX1_halvingLine 46 = .ok (.iadd, 1) := dk_96 (dk_at dksX1_halvingLine_1 23 rfl rfl)
theorem dX1_halvingLine_47 : decode cX1_halvingLine 47 = .ok (.istore 6, 2) := dk_54 6 (dk_at dksX1_halvingLine_2 0 rfl rfl)
theorem dX1_halvingLine_49 : decode cX1_halvingLine 49 = .ok (.aload_n 0, 1) := dk_42 (dk_at dksX1_halvingLine_2 2 rfl rfl)
theorem dX1_halvingLine_50 : decode cX1_halvingLine 50 = .ok (.iload_n 1, 1) := dk_27 (dk_at dksX1_halvingLine_2 3 rfl rfl)
theorem dX1_halvingLine_51 : decode cX1_halvingLine 51 = .ok (.iload 6, 2) := dk_21 6 (dk_at dksX1_halvingLine_2 4 rfl rfl)
theorem dX1_halvingLine_53 : decode cX1_halvingLine 53 = .ok (.iload 5, 2) := dk_21 5 (dk_at dksX1_halvingLine_2 6 rfl rfl)
theorem dX1_halvingLine_55 : decode cX1_halvingLine 55 = .ok (.invokevirtual 238, 3) := dk_182 0 238 (dk_at dksX1_halvingLine_2 8 rfl rfl)
theorem dX1_halvingLine_58 : decode cX1_halvingLine 58 = .ok (.istore 7, 2) := dk_54 7 (dk_at dksX1_halvingLine_2 11 rfl rfl)
theorem dX1_halvingLine_60 : decode cX1_halvingLine 60 = .ok (.iload 7, 2) := dk_21 7 (dk_at dksX1_halvingLine_2 13 rfl rfl)
theorem dX1_halvingLine_62 : decode cX1_halvingLine 62 = .ok (.iload_n 3, 1) := dk_29 (dk_at dksX1_halvingLine_2 15 rfl rfl)
theorem dX1_halvingLine_63 : decode cX1_halvingLine 63 = .ok (.if_icmp .lt 6, 3) := dk_161 0 6 (dk_at dksX1_halvingLine_2 16 rfl rfl)
theorem dX1_halvingLine_66 : decode cX1_halvingLine 66 = .ok (.goto 22, 3) := dk_167 0 22 (dk_at dksX1_halvingLine_2 19 rfl rfl)
theorem dX1_halvingLine_69 : decode cX1_halvingLine 69 = .ok (.iload 5, 2) := dk_21 5 (dk_at dksX1_halvingLine_2 22 rfl rfl)
theorem dX1_halvingLine_71 : decode cX1_halvingLine 71 = .ok (.ifCond .eq 8, 3) := dk_153 0 8 (dk_at dksX1_halvingLine_3 0 rfl rfl)
theorem dX1_halvingLine_74 : decode cX1_halvingLine 74 = .ok (.iload 6, 2) := dk_21 6 (dk_at dksX1_halvingLine_3 3 rfl rfl)
theorem dX1_halvingLine_76 : decode cX1_halvingLine 76 = .ok (.goto 8, 3) := dk_167 0 8 (dk_at dksX1_halvingLine_3 5 rfl rfl)
theorem dX1_halvingLine_79 : decode cX1_halvingLine 79 = .ok (.bipush 100, 2) := dk_16 100 (dk_at dksX1_halvingLine_3 8 rfl rfl)
theorem dX1_halvingLine_81 : decode cX1_halvingLine 81 = .ok (.iload 6, 2) := dk_21 6 (dk_at dksX1_halvingLine_3 10 rfl rfl)
theorem dX1_halvingLine_83 : decode cX1_halvingLine 83 = .ok (.iadd, 1) := dk_96 (dk_at dksX1_halvingLine_3 12 rfl rfl)
theorem dX1_halvingLine_84 : decode cX1_halvingLine 84 = .ok (.istore_n 2, 1) := dk_61 (dk_at dksX1_halvingLine_3 13 rfl rfl)
theorem dX1_halvingLine_85 : decode cX1_halvingLine 85 = .ok (.iload 7, 2) := dk_21 7 (dk_at dksX1_halvingLine_3 14 rfl rfl)
theorem dX1_halvingLine_87 : decode cX1_halvingLine 87 = .ok (.istore_n 3, 1) := dk_62 (dk_at dksX1_halvingLine_3 16 rfl rfl)
theorem dX1_halvingLine_88 : decode cX1_halvingLine 88 = .ok (.iinc 4 1, 3) := dk_132 4 1 (dk_at dksX1_halvingLine_3 17 rfl rfl)
theorem dX1_halvingLine_91 : decode cX1_halvingLine 91 = .ok (.goto (-72), 3) := dk_167 255 184 (dk_at dksX1_halvingLine_3 20 rfl rfl)
theorem dX1_halvingLine_94 : decode cX1_halvingLine 94 = .ok (.iload_n 2, 1) := dk_28 (dk_at dksX1_halvingLine_3 23 rfl rfl)
theorem dX1_halvingLine_95 : decode cX1_halvingLine 95 = .ok (.ireturn, 1) := dk_172 (dk_at dksX1_halvingLine_4 0 rfl rfl)
abbrev cX1_difference : ByteArray := prog_1_method_41_code
def yX1_difference : MethodName := ⟨RX1, "difference", "(IIZ)I"⟩
def dkwX1_difference_3 : List UInt8 := [21, 4, 184, 0, 16, 172]
abbrev dktX1_difference_3 : List UInt8 := dkwX1_difference_3 ++ []
def dkwX1_difference_2 : List UInt8 := [21, 5, 184, 0, 21, 28, 162, 0, 7, 4, 167, 0, 4, 2, 96, 54, 4, 132, 5, 1, 167, 255, 194]
abbrev dktX1_difference_2 : List UInt8 := dkwX1_difference_2 ++ dktX1_difference_3
def dkwX1_difference_1 : List UInt8 := [21, 5, 51, 27, 159, 0, 6, 167, 0, 34, 21, 4, 29, 153, 0, 11, 21, 5, 184, 0, 12, 167, 0, 8]
abbrev dktX1_difference_1 : List UInt8 := dkwX1_difference_1 ++ dktX1_difference_2
def dkwX1_difference_0 : List UInt8 := [3, 54, 4, 3, 54, 5, 21, 5, 17, 3, 132, 162, 0, 60, 42, 180, 0, 39, 180, 0, 171, 180, 0, 175]
abbrev dktX1_difference_0 : List UInt8 := dkwX1_difference_0 ++ dktX1_difference_1
theorem dksX1_difference_0 : cX1_difference.data.toList.drop 0 = dktX1_difference_0 := by decide +kernel
theorem dksX1_difference_1 : cX1_difference.data.toList.drop 24 = dktX1_difference_1 := dk_seg dksX1_difference_0 24 rfl rfl
theorem dksX1_difference_2 : cX1_difference.data.toList.drop 48 = dktX1_difference_2 := dk_seg dksX1_difference_1 24 rfl rfl
theorem dksX1_difference_3 : cX1_difference.data.toList.drop 71 = dktX1_difference_3 := dk_seg dksX1_difference_2 23 rfl rfl
theorem dX1_difference_0 : decode cX1_difference 0 = .ok (.iconst 0, 1) := dk_3 (dk_at dksX1_difference_0 0 rfl rfl)
theorem dX1_difference_1 : decode cX1_difference 1 = .ok (.istore 4, 2) := dk_54 4 (dk_at dksX1_difference_0 1 rfl rfl)
theorem dX1_difference_3 : decode cX1_difference 3 = .ok (.iconst 0, 1) := dk_3 (dk_at dksX1_difference_0 3 rfl rfl)
theorem dX1_difference_4 : decode cX1_difference 4 = .ok (.istore 5, 2) := dk_54 5 (dk_at dksX1_difference_0 4 rfl rfl)
theorem dX1_difference_6 : decode cX1_difference 6 = .ok (.iload 5, 2) := dk_21 5 (dk_at dksX1_difference_0 6 rfl rfl)
theorem dX1_difference_8 : decode cX1_difference 8 = .ok (.sipush 900, 3) := dk_17 3 132 (dk_at dksX1_difference_0 8 rfl rfl)
theorem dX1_difference_11 : decode cX1_difference 11 = .ok (.if_icmp .ge 60, 3) := dk_162 0 60 (dk_at dksX1_difference_0 11 rfl rfl)
theorem dX1_difference_14 : decode cX1_difference 14 = .ok (.aload_n 0, 1) := dk_42 (dk_at dksX1_difference_0 14 rfl rfl)
theorem dX1_difference_15 : decode cX1_difference 15 = .ok (.getfield 39, 3) := dk_180 0 39 (dk_at dksX1_difference_0 15 rfl rfl)
theorem dX1_difference_18 : decode cX1_difference 18 = .ok (.getfield 171, 3) := dk_180 0 171 (dk_at dksX1_difference_0 18 rfl rfl)
theorem dX1_difference_21 : decode cX1_difference 21 = .ok (.getfield 175, 3) := dk_180 0 175 (dk_at dksX1_difference_0 21 rfl rfl)
theorem dX1_difference_24 : decode cX1_difference 24 = .ok (.iload 5, 2) := dk_21 5 (dk_at dksX1_difference_1 0 rfl rfl)
theorem dX1_difference_26 : decode cX1_difference 26 = .ok (.baload, 1) := dk_51 (dk_at dksX1_difference_1 2 rfl rfl)
theorem dX1_difference_27 : decode cX1_difference 27 = .ok (.iload_n 1, 1) := dk_27 (dk_at dksX1_difference_1 3 rfl rfl)
theorem dX1_difference_28 : decode cX1_difference 28 = .ok (.if_icmp .eq 6, 3) := dk_159 0 6 (dk_at dksX1_difference_1 4 rfl rfl)
theorem dX1_difference_31 : decode cX1_difference 31 = .ok (.goto 34, 3) := dk_167 0 34 (dk_at dksX1_difference_1 7 rfl rfl)
theorem dX1_difference_34 : decode cX1_difference 34 = .ok (.iload 4, 2) := dk_21 4 (dk_at dksX1_difference_1 10 rfl rfl)
theorem dX1_difference_36 : decode cX1_difference 36 = .ok (.iload_n 3, 1) := dk_29 (dk_at dksX1_difference_1 12 rfl rfl)
theorem dX1_difference_37 : decode cX1_difference 37 = .ok (.ifCond .eq 11, 3) := dk_153 0 11 (dk_at dksX1_difference_1 13 rfl rfl)
theorem dX1_difference_40 : decode cX1_difference 40 = .ok (.iload 5, 2) := dk_21 5 (dk_at dksX1_difference_1 16 rfl rfl)
theorem dX1_difference_42 : decode cX1_difference 42 = .ok (.invokestatic 12, 3) := dk_184 0 12 (dk_at dksX1_difference_1 18 rfl rfl)
theorem dX1_difference_45 : decode cX1_difference 45 = .ok (.goto 8, 3) := dk_167 0 8 (dk_at dksX1_difference_1 21 rfl rfl)
theorem dX1_difference_48 : decode cX1_difference 48 = .ok (.iload 5, 2) := dk_21 5 (dk_at dksX1_difference_2 0 rfl rfl)
theorem dX1_difference_50 : decode cX1_difference 50 = .ok (.invokestatic 21, 3) := dk_184 0 21 (dk_at dksX1_difference_2 2 rfl rfl)
theorem dX1_difference_53 : decode cX1_difference 53 = .ok (.iload_n 2, 1) := dk_28 (dk_at dksX1_difference_2 5 rfl rfl)
theorem dX1_difference_54 : decode cX1_difference 54 = .ok (.if_icmp .ge 7, 3) := dk_162 0 7 (dk_at dksX1_difference_2 6 rfl rfl)
theorem dX1_difference_57 : decode cX1_difference 57 = .ok (.iconst 1, 1) := dk_4 (dk_at dksX1_difference_2 9 rfl rfl)
theorem dX1_difference_58 : decode cX1_difference 58 = .ok (.goto 4, 3) := dk_167 0 4 (dk_at dksX1_difference_2 10 rfl rfl)
theorem dX1_difference_61 : decode cX1_difference 61 = .ok (.iconst (-1), 1) := dk_2 (dk_at dksX1_difference_2 13 rfl rfl)
theorem dX1_difference_62 : decode cX1_difference 62 = .ok (.iadd, 1) := dk_96 (dk_at dksX1_difference_2 14 rfl rfl)
theorem dX1_difference_63 : decode cX1_difference 63 = .ok (.istore 4, 2) := dk_54 4 (dk_at dksX1_difference_2 15 rfl rfl)
theorem dX1_difference_65 : decode cX1_difference 65 = .ok (.iinc 5 1, 3) := dk_132 5 1 (dk_at dksX1_difference_2 17 rfl rfl)
theorem dX1_difference_68 : decode cX1_difference 68 = .ok (.goto (-62), 3) := dk_167 255 194 (dk_at dksX1_difference_2 20 rfl rfl)
theorem dX1_difference_71 : decode cX1_difference 71 = .ok (.iload 4, 2) := dk_21 4 (dk_at dksX1_difference_3 0 rfl rfl)
theorem dX1_difference_73 : decode cX1_difference 73 = .ok (.invokestatic 16, 3) := dk_184 0 16 (dk_at dksX1_difference_3 2 rfl rfl)
theorem dX1_difference_76 : decode cX1_difference 76 = .ok (.ireturn, 1) := dk_172 (dk_at dksX1_difference_3 5 rfl rfl)
abbrev cX1_royalty : ByteArray := prog_1_method_44_code
def yX1_royalty : MethodName := ⟨RX1, "royalty", "(IJ)J"⟩
def dkwX1_royalty_2 : List UInt8 := [182, 0, 247, 173]
abbrev dktX1_royalty_2 : List UInt8 := dkwX1_royalty_2 ++ []
def dkwX1_royalty_1 : List UInt8 := [184, 0, 84, 84, 184, 0, 168, 42, 180, 0, 30, 180, 0, 117, 27, 185, 0, 96, 2, 0, 192, 0, 245, 32]
abbrev dktX1_royalty_1 : List UInt8 := dkwX1_royalty_1 ++ dktX1_royalty_2
def dkwX1_royalty_0 : List UInt8 := [4, 188, 4, 89, 3, 42, 27, 182, 0, 242, 84, 184, 0, 92, 4, 188, 4, 89, 3, 32, 9, 20, 0, 109]
abbrev dktX1_royalty_0 : List UInt8 := dkwX1_royalty_0 ++ dktX1_royalty_1
theorem dksX1_royalty_0 : cX1_royalty.data.toList.drop 0 = dktX1_royalty_0 := by decide +kernel
theorem dksX1_royalty_1 : cX1_royalty.data.toList.drop 24 = dktX1_royalty_1 := dk_seg dksX1_royalty_0 24 rfl rfl
theorem dksX1_royalty_2 : cX1_royalty.data.toList.drop 48 = dktX1_royalty_2 := dk_seg dksX1_royalty_1 24 rfl rfl
theorem dX1_royalty_0 : decode cX1_royalty 0 = .ok (.iconst 1, 1) := dk_4 (dk_at dksX1_royalty_0 0 rfl rfl)
theorem dX1_royalty_1 : decode cX1_royalty 1 = .ok (.newarray .boolean, 2) := dk_188_4 (dk_at dksX1_royalty_0 1 rfl rfl)
theorem dX1_royalty_3 : decode cX1_royalty 3 = .ok (.dup, 1) := dk_89 (dk_at dksX1_royalty_0 3 rfl rfl)
theorem dX1_royalty_4 : decode cX1_royalty 4 = .ok (.iconst 0, 1) := dk_3 (dk_at dksX1_royalty_0 4 rfl rfl)
theorem dX1_royalty_5 : decode cX1_royalty 5 = .ok (.aload_n 0, 1) := dk_42 (dk_at dksX1_royalty_0 5 rfl rfl)
theorem dX1_royalty_6 : decode cX1_royalty 6 = .ok (.iload_n 1, 1) := dk_27 (dk_at dksX1_royalty_0 6 rfl rfl)
theorem dX1_royalty_7 : decode cX1_royalty 7 = .ok (.invokevirtual 242, 3) := dk_182 0 242 (dk_at dksX1_royalty_0 7 rfl rfl)
theorem dX1_royalty_10 : decode cX1_royalty 10 = .ok (.bastore, 1) := dk_84 (dk_at dksX1_royalty_0 10 rfl rfl)
theorem dX1_royalty_11 : decode cX1_royalty 11 = .ok (.invokestatic 92, 3) := dk_184 0 92 (dk_at dksX1_royalty_0 11 rfl rfl)
theorem dX1_royalty_14 : decode cX1_royalty 14 = .ok (.iconst 1, 1) := dk_4 (dk_at dksX1_royalty_0 14 rfl rfl)
theorem dX1_royalty_15 : decode cX1_royalty 15 = .ok (.newarray .boolean, 2) := dk_188_4 (dk_at dksX1_royalty_0 15 rfl rfl)
theorem dX1_royalty_17 : decode cX1_royalty 17 = .ok (.dup, 1) := dk_89 (dk_at dksX1_royalty_0 17 rfl rfl)
theorem dX1_royalty_18 : decode cX1_royalty 18 = .ok (.iconst 0, 1) := dk_3 (dk_at dksX1_royalty_0 18 rfl rfl)
theorem dX1_royalty_19 : decode cX1_royalty 19 = .ok (.lload_n 2, 1) := dk_32 (dk_at dksX1_royalty_0 19 rfl rfl)
theorem dX1_royalty_20 : decode cX1_royalty 20 = .ok (.lconst 0, 1) := dk_9 (dk_at dksX1_royalty_0 20 rfl rfl)
theorem dX1_royalty_21 : decode cX1_royalty 21 = .ok (.ldc2_w 109, 3) := dk_20 0 109 (dk_at dksX1_royalty_0 21 rfl rfl)
theorem dX1_royalty_24 : decode cX1_royalty 24 = .ok (.invokestatic 84, 3) := dk_184 0 84 (dk_at dksX1_royalty_1 0 rfl rfl)
theorem dX1_royalty_27 : decode cX1_royalty 27 = .ok (.bastore, 1) := dk_84 (dk_at dksX1_royalty_1 3 rfl rfl)
theorem dX1_royalty_28 : decode cX1_royalty 28 = .ok (.invokestatic 168, 3) := dk_184 0 168 (dk_at dksX1_royalty_1 4 rfl rfl)
theorem dX1_royalty_31 : decode cX1_royalty 31 = .ok (.aload_n 0, 1) := dk_42 (dk_at dksX1_royalty_1 7 rfl rfl)
theorem dX1_royalty_32 : decode cX1_royalty 32 = .ok (.getfield 30, 3) := dk_180 0 30 (dk_at dksX1_royalty_1 8 rfl rfl)
theorem dX1_royalty_35 : decode cX1_royalty 35 = .ok (.getfield 117, 3) := dk_180 0 117 (dk_at dksX1_royalty_1 11 rfl rfl)
theorem dX1_royalty_38 : decode cX1_royalty 38 = .ok (.iload_n 1, 1) := dk_27 (dk_at dksX1_royalty_1 14 rfl rfl)
theorem dX1_royalty_39 : decode cX1_royalty 39 = .ok (.invokeinterface 96 2, 5) := by decide +kernel
theorem dX1_royalty_44 : decode cX1_royalty 44 = .ok (.checkcast 245, 3) := dk_192 0 245 (dk_at dksX1_royalty_1 20 rfl rfl)
theorem dX1_royalty_47 : decode cX1_royalty 47 = .ok (.lload_n 2, 1) := dk_32 (dk_at dksX1_royalty_1 23 rfl rfl)
theorem dX1_royalty_48 : decode cX1_royalty 48 = .ok (.invokevirtual 247, 3) := dk_182 0 247 (dk_at dksX1_royalty_2 0 rfl rfl)
theorem dX1_royalty_51 : decode cX1_royalty 51 = .ok (.lreturn, 1) := dk_173 (dk_at dksX1_royalty_2 3 rfl rfl)
abbrev cX1_isPlan : ByteArray := prog_1_method_43_code
def yX1_isPlan : MethodName := ⟨RX1, "isPlan", "(I)Z"⟩
def dkwX1_isPlan_0 : List UInt8 := [27, 133, 9, 42, 180, 0, 30, 180, 0, 117, 185, 0, 78, 1, 0, 4, 100, 133, 184, 0, 84, 172]
abbrev dktX1_isPlan_0 : List UInt8 := dkwX1_isPlan_0 ++ []
theorem dksX1_isPlan_0 : cX1_isPlan.data.toList.drop 0 = dktX1_isPlan_0 := by decide +kernel
theorem dX1_isPlan_0 : decode cX1_isPlan 0 = .ok (.iload_n 1, 1) := dk_27 (dk_at dksX1_isPlan_0 0 rfl rfl)
theorem dX1_isPlan_1 : decode cX1_isPlan 1 = .ok (.i2l, 1) := dk_133 (dk_at dksX1_isPlan_0 1 rfl rfl)
theorem dX1_isPlan_2 : decode cX1_isPlan 2 = .ok (.lconst 0, 1) := dk_9 (dk_at dksX1_isPlan_0 2 rfl rfl)
theorem dX1_isPlan_3 : decode cX1_isPlan 3 = .ok (.aload_n 0, 1) := dk_42 (dk_at dksX1_isPlan_0 3 rfl rfl)
theorem dX1_isPlan_4 : decode cX1_isPlan 4 = .ok (.getfield 30, 3) := dk_180 0 30 (dk_at dksX1_isPlan_0 4 rfl rfl)
theorem dX1_isPlan_7 : decode cX1_isPlan 7 = .ok (.getfield 117, 3) := dk_180 0 117 (dk_at dksX1_isPlan_0 7 rfl rfl)
theorem dX1_isPlan_10 : decode cX1_isPlan 10 = .ok (.invokeinterface 78 1, 5) := by decide +kernel
theorem dX1_isPlan_15 : decode cX1_isPlan 15 = .ok (.iconst 1, 1) := dk_4 (dk_at dksX1_isPlan_0 15 rfl rfl)
theorem dX1_isPlan_16 : decode cX1_isPlan 16 = .ok (.isub, 1) := dk_100 (dk_at dksX1_isPlan_0 16 rfl rfl)
theorem dX1_isPlan_17 : decode cX1_isPlan 17 = .ok (.i2l, 1) := dk_133 (dk_at dksX1_isPlan_0 17 rfl rfl)
theorem dX1_isPlan_18 : decode cX1_isPlan 18 = .ok (.invokestatic 84, 3) := dk_184 0 84 (dk_at dksX1_isPlan_0 18 rfl rfl)
theorem dX1_isPlan_21 : decode cX1_isPlan 21 = .ok (.ireturn, 1) := dk_172 (dk_at dksX1_isPlan_0 21 rfl rfl)
abbrev cX1_planOf : ByteArray := prog_1_method_21_code
def yX1_planOf : MethodName := ⟨RX1, "planOf", "(I)I"⟩
def dkwX1_planOf_0 : List UInt8 := [42, 27, 182, 0, 134, 180, 0, 138, 172]
abbrev dktX1_planOf_0 : List UInt8 := dkwX1_planOf_0 ++ []
theorem dksX1_planOf_0 : cX1_planOf.data.toList.drop 0 = dktX1_planOf_0 := by decide +kernel
theorem dX1_planOf_0 : decode cX1_planOf 0 = .ok (.aload_n 0, 1) := dk_42 (dk_at dksX1_planOf_0 0 rfl rfl)
theorem dX1_planOf_1 : decode cX1_planOf 1 = .ok (.iload_n 1, 1) := dk_27 (dk_at dksX1_planOf_0 1 rfl rfl)
theorem dX1_planOf_2 : decode cX1_planOf 2 = .ok (.invokevirtual 134, 3) := dk_182 0 134 (dk_at dksX1_planOf_0 2 rfl rfl)
theorem dX1_planOf_5 : decode cX1_planOf 5 = .ok (.getfield 138, 3) := dk_180 0 138 (dk_at dksX1_planOf_0 5 rfl rfl)
theorem dX1_planOf_8 : decode cX1_planOf 8 = .ok (.ireturn, 1) := dk_172 (dk_at dksX1_planOf_0 8 rfl rfl)
abbrev cX1_setPlan : ByteArray := prog_1_method_45_code
def yX1_setPlan : MethodName := ⟨RX1, "setPlan", "(II)I"⟩
def dkwX1_setPlan_1 : List UInt8 := [182, 0, 134, 180, 0, 138, 62, 42, 27, 182, 0, 134, 28, 181, 0, 138, 29, 172]
abbrev dktX1_setPlan_1 : List UInt8 := dkwX1_setPlan_1 ++ []
def dkwX1_setPlan_0 : List UInt8 := [5, 188, 4, 89, 3, 42, 27, 182, 0, 88, 84, 89, 4, 42, 28, 182, 0, 242, 84, 184, 0, 92, 42, 27]
abbrev dktX1_setPlan_0 : List UInt8 := dkwX1_setPlan_0 ++ dktX1_setPlan_1
theorem dksX1_setPlan_0 : cX1_setPlan.data.toList.drop 0 = dktX1_setPlan_0 := by decide +kernel
theorem dksX1_setPlan_1 : cX1_setPlan.data.toList.drop 24 = dktX1_setPlan_1 := dk_seg dksX1_setPlan_0 24 rfl rfl
theorem dX1_setPlan_0 : decode cX1_setPlan 0 = .ok (.iconst 2, 1) := dk_5 (dk_at dksX1_setPlan_0 0 rfl rfl)
theorem dX1_setPlan_1 : decode cX1_setPlan 1 = .ok (.newarray .boolean, 2) := dk_188_4 (dk_at dksX1_setPlan_0 1 rfl rfl)
theorem dX1_setPlan_3 : decode cX1_setPlan 3 = .ok (.dup, 1) := dk_89 (dk_at dksX1_setPlan_0 3 rfl rfl)
theorem dX1_setPlan_4 : decode cX1_setPlan 4 = .ok (.iconst 0, 1) := dk_3 (dk_at dksX1_setPlan_0 4 rfl rfl)
theorem dX1_setPlan_5 : decode cX1_setPlan 5 = .ok (.aload_n 0, 1) := dk_42 (dk_at dksX1_setPlan_0 5 rfl rfl)
theorem dX1_setPlan_6 : decode cX1_setPlan 6 = .ok (.iload_n 1, 1) := dk_27 (dk_at dksX1_setPlan_0 6 rfl rfl)
theorem dX1_setPlan_7 : decode cX1_setPlan 7 = .ok (.invokevirtual 88, 3) := dk_182 0 88 (dk_at dksX1_setPlan_0 7 rfl rfl)
theorem dX1_setPlan_10 : decode cX1_setPlan 10 = .ok (.bastore, 1) := dk_84 (dk_at dksX1_setPlan_0 10 rfl rfl)
theorem dX1_setPlan_11 : decode cX1_setPlan 11 = .ok (.dup, 1) := dk_89 (dk_at dksX1_setPlan_0 11 rfl rfl)
theorem dX1_setPlan_12 : decode cX1_setPlan 12 = .ok (.iconst 1, 1) := dk_4 (dk_at dksX1_setPlan_0 12 rfl rfl)
theorem dX1_setPlan_13 : decode cX1_setPlan 13 = .ok (.aload_n 0, 1) := dk_42 (dk_at dksX1_setPlan_0 13 rfl rfl)
theorem dX1_setPlan_14 : decode cX1_setPlan 14 = .ok (.iload_n 2, 1) := dk_28 (dk_at dksX1_setPlan_0 14 rfl rfl)
theorem dX1_setPlan_15 : decode cX1_setPlan 15 = .ok (.invokevirtual 242, 3) := dk_182 0 242 (dk_at dksX1_setPlan_0 15 rfl rfl)
theorem dX1_setPlan_18 : decode cX1_setPlan 18 = .ok (.bastore, 1) := dk_84 (dk_at dksX1_setPlan_0 18 rfl rfl)
theorem dX1_setPlan_19 : decode cX1_setPlan 19 = .ok (.invokestatic 92, 3) := dk_184 0 92 (dk_at dksX1_setPlan_0 19 rfl rfl)
theorem dX1_setPlan_22 : decode cX1_setPlan 22 = .ok (.aload_n 0, 1) := dk_42 (dk_at dksX1_setPlan_0 22 rfl rfl)
theorem dX1_setPlan_23 : decode cX1_setPlan 23 = .ok (.iload_n 1, 1) := dk_27 (dk_at dksX1_setPlan_0 23 rfl rfl)
theorem dX1_setPlan_24 : decode cX1_setPlan 24 = .ok (.invokevirtual 134, 3) := dk_182 0 134 (dk_at dksX1_setPlan_1 0 rfl rfl)
theorem dX1_setPlan_27 : decode cX1_setPlan 27 = .ok (.getfield 138, 3) := dk_180 0 138 (dk_at dksX1_setPlan_1 3 rfl rfl)
theorem dX1_setPlan_30 : decode cX1_setPlan 30 = .ok (.istore_n 3, 1) := dk_62 (dk_at dksX1_setPlan_1 6 rfl rfl)
theorem dX1_setPlan_31 : decode cX1_setPlan 31 = .ok (.aload_n 0, 1) := dk_42 (dk_at dksX1_setPlan_1 7 rfl rfl)
theorem dX1_setPlan_32 : decode cX1_setPlan 32 = .ok (.iload_n 1, 1) := dk_27 (dk_at dksX1_setPlan_1 8 rfl rfl)
theorem dX1_setPlan_33 : decode cX1_setPlan 33 = .ok (.invokevirtual 134, 3) := dk_182 0 134 (dk_at dksX1_setPlan_1 9 rfl rfl)
theorem dX1_setPlan_36 : decode cX1_setPlan 36 = .ok (.iload_n 2, 1) := dk_28 (dk_at dksX1_setPlan_1 12 rfl rfl)
theorem dX1_setPlan_37 : decode cX1_setPlan 37 = .ok (.putfield 138, 3) := dk_181 0 138 (dk_at dksX1_setPlan_1 13 rfl rfl)
theorem dX1_setPlan_40 : decode cX1_setPlan 40 = .ok (.iload_n 3, 1) := dk_29 (dk_at dksX1_setPlan_1 16 rfl rfl)
theorem dX1_setPlan_41 : decode cX1_setPlan 41 = .ok (.ireturn, 1) := dk_172 (dk_at dksX1_setPlan_1 17 rfl rfl)
abbrev cX1_cheapestPlan : ByteArray := prog_1_method_47_code
def yX1_cheapestPlan : MethodName := ⟨RX1, "cheapestPlan", "(I)I"⟩
def dkwX1_cheapestPlan_1 : List UInt8 := [180, 0, 39, 27, 16, 100, 182, 0, 254, 184, 1, 2, 172]
abbrev dktX1_cheapestPlan_1 : List UInt8 := dkwX1_cheapestPlan_1 ++ []
def dkwX1_cheapestPlan_0 : List UInt8 := [4, 188, 4, 89, 3, 42, 27, 182, 0, 88, 84, 184, 0, 92, 42, 180, 0, 30, 180, 0, 117, 42]
abbrev dktX1_cheapestPlan_0 : List UInt8 := dkwX1_cheapestPlan_0 ++ dktX1_cheapestPlan_1
theorem dksX1_cheapestPlan_0 : cX1_cheapestPlan.data.toList.drop 0 = dktX1_cheapestPlan_0 := by decide +kernel
theorem dksX1_cheapestPlan_1 : cX1_cheapestPlan.data.toList.drop 22 = dktX1_cheapestPlan_1 := dk_seg dksX1_cheapestPlan_0 22 rfl rfl
theorem dX1_cheapestPlan_0 : decode cX1_cheapestPlan 0 = .ok (.iconst 1, 1) := dk_4 (dk_at dksX1_cheapestPlan_0 0 rfl rfl)
theorem dX1_cheapestPlan_1 : decode cX1_cheapestPlan 1 = .ok (.newarray .boolean, 2) := dk_188_4 (dk_at dksX1_cheapestPlan_0 1 rfl rfl)
theorem dX1_cheapestPlan_3 : decode cX1_cheapestPlan 3 = .ok (.dup, 1) := dk_89 (dk_at dksX1_cheapestPlan_0 3 rfl rfl)
theorem dX1_cheapestPlan_4 : decode cX1_cheapestPlan 4 = .ok (.iconst 0, 1) := dk_3 (dk_at dksX1_cheapestPlan_0 4 rfl rfl)
theorem dX1_cheapestPlan_5 : decode cX1_cheapestPlan 5 = .ok (.aload_n 0, 1) := dk_42 (dk_at dksX1_cheapestPlan_0 5 rfl rfl)
theorem dX1_cheapestPlan_6 : decode cX1_cheapestPlan 6 = .ok (.iload_n 1, 1) := dk_27 (dk_at dksX1_cheapestPlan_0 6 rfl rfl)
theorem dX1_cheapestPlan_7 : decode cX1_cheapestPlan 7 = .ok (.invokevirtual 88, 3) := dk_182 0 88 (dk_at dksX1_cheapestPlan_0 7 rfl rfl)
theorem dX1_cheapestPlan_10 : decode cX1_cheapestPlan 10 = .ok (.bastore, 1) := dk_84 (dk_at dksX1_cheapestPlan_0 10 rfl rfl)
theorem dX1_cheapestPlan_11 : decode cX1_cheapestPlan 11 = .ok (.invokestatic 92, 3) := dk_184 0 92 (dk_at dksX1_cheapestPlan_0 11 rfl rfl)
theorem dX1_cheapestPlan_14 : decode cX1_cheapestPlan 14 = .ok (.aload_n 0, 1) := dk_42 (dk_at dksX1_cheapestPlan_0 14 rfl rfl)
theorem dX1_cheapestPlan_15 : decode cX1_cheapestPlan 15 = .ok (.getfield 30, 3) := dk_180 0 30 (dk_at dksX1_cheapestPlan_0 15 rfl rfl)
theorem dX1_cheapestPlan_18 : decode cX1_cheapestPlan 18 = .ok (.getfield 117, 3) := dk_180 0 117 (dk_at dksX1_cheapestPlan_0 18 rfl rfl)
theorem dX1_cheapestPlan_21 : decode cX1_cheapestPlan 21 = .ok (.aload_n 0, 1) := dk_42 (dk_at dksX1_cheapestPlan_0 21 rfl rfl)
theorem dX1_cheapestPlan_22 : decode cX1_cheapestPlan 22 = .ok (.getfield 39, 3) := dk_180 0 39 (dk_at dksX1_cheapestPlan_1 0 rfl rfl)
theorem dX1_cheapestPlan_25 : decode cX1_cheapestPlan 25 = .ok (.iload_n 1, 1) := dk_27 (dk_at dksX1_cheapestPlan_1 3 rfl rfl)
theorem dX1_cheapestPlan_26 : decode cX1_cheapestPlan 26 = .ok (.bipush 100, 2) := dk_16 100 (dk_at dksX1_cheapestPlan_1 4 rfl rfl)
theorem dX1_cheapestPlan_28 : decode cX1_cheapestPlan 28 = .ok (.invokevirtual 254, 3) := dk_182 0 254 (dk_at dksX1_cheapestPlan_1 6 rfl rfl)
theorem dX1_cheapestPlan_31 : decode cX1_cheapestPlan 31 = .ok (.invokestatic 258, 3) := dk_184 1 2 (dk_at dksX1_cheapestPlan_1 9 rfl rfl)
theorem dX1_cheapestPlan_34 : decode cX1_cheapestPlan 34 = .ok (.ireturn, 1) := dk_172 (dk_at dksX1_cheapestPlan_1 12 rfl rfl)
abbrev cX1_cheapest : ByteArray := prog_1_method_46_code
def yX1_cheapest : MethodName := ⟨RX1, "cheapest", "(Ljava/util/List;J)I"⟩
def dkwX1_cheapest_2 : List UInt8 := [156, 0, 8, 21, 4, 167, 0, 4, 29, 62, 132, 4, 1, 167, 255, 202, 29, 172]
abbrev dktX1_cheapest_2 : List UInt8 := dkwX1_cheapest_2 ++ []
def dkwX1_cheapest_1 : List UInt8 := [192, 0, 245, 31, 182, 0, 251, 42, 29, 185, 0, 96, 2, 0, 192, 0, 245, 31, 182, 0, 251, 148]
abbrev dktX1_cheapest_1 : List UInt8 := dkwX1_cheapest_1 ++ dktX1_cheapest_2
def dkwX1_cheapest_0 : List UInt8 := [3, 62, 4, 54, 4, 21, 4, 42, 185, 0, 78, 1, 0, 162, 0, 49, 42, 21, 4, 185, 0, 96, 2, 0]
abbrev dktX1_cheapest_0 : List UInt8 := dkwX1_cheapest_0 ++ dktX1_cheapest_1
theorem dksX1_cheapest_0 : cX1_cheapest.data.toList.drop 0 = dktX1_cheapest_0 := by decide +kernel
theorem dksX1_cheapest_1 : cX1_cheapest.data.toList.drop 24 = dktX1_cheapest_1 := dk_seg dksX1_cheapest_0 24 rfl rfl
theorem dksX1_cheapest_2 : cX1_cheapest.data.toList.drop 46 = dktX1_cheapest_2 := dk_seg dksX1_cheapest_1 22 rfl rfl
theorem dX1_cheapest_0 : decode cX1_cheapest 0 = .ok (.iconst 0, 1) := dk_3 (dk_at dksX1_cheapest_0 0 rfl rfl)
theorem dX1_cheapest_1 : decode cX1_cheapest 1 = .ok (.istore_n 3, 1) := dk_62 (dk_at dksX1_cheapest_0 1 rfl rfl)
theorem dX1_cheapest_2 : decode cX1_cheapest 2 = .ok (.iconst 1, 1) := dk_4 (dk_at dksX1_cheapest_0 2 rfl rfl)
theorem dX1_cheapest_3 : decode cX1_cheapest 3 = .ok (.istore 4, 2) := dk_54 4 (dk_at dksX1_cheapest_0 3 rfl rfl)
theorem dX1_cheapest_5 : decode cX1_cheapest 5 = .ok (.iload 4, 2) := dk_21 4 (dk_at dksX1_cheapest_0 5 rfl rfl)
theorem dX1_cheapest_7 : decode cX1_cheapest 7 = .ok (.aload_n 0, 1) := dk_42 (dk_at dksX1_cheapest_0 7 rfl rfl)
theorem dX1_cheapest_8 : decode cX1_cheapest 8 = .ok (.invokeinterface 78 1, 5) := by decide +kernel
theorem dX1_cheapest_13 : decode cX1_cheapest 13 = .ok (.if_icmp .ge 49, 3) := dk_162 0 49 (dk_at dksX1_cheapest_0 13 rfl rfl)
theorem dX1_cheapest_16 : decode cX1_cheapest 16 = .ok (.aload_n 0, 1) := dk_42 (dk_at dksX1_cheapest_0 16 rfl rfl)
theorem dX1_cheapest_17 : decode cX1_cheapest 17 = .ok (.iload 4, 2) := dk_21 4 (dk_at dksX1_cheapest_0 17 rfl rfl)
theorem dX1_cheapest_19 : decode cX1_cheapest 19 = .ok (.invokeinterface 96 2, 5) := by decide +kernel
theorem dX1_cheapest_24 : decode cX1_cheapest 24 = .ok (.checkcast 245, 3) := dk_192 0 245 (dk_at dksX1_cheapest_1 0 rfl rfl)
theorem dX1_cheapest_27 : decode cX1_cheapest 27 = .ok (.lload_n 1, 1) := dk_31 (dk_at dksX1_cheapest_1 3 rfl rfl)
theorem dX1_cheapest_28 : decode cX1_cheapest 28 = .ok (.invokevirtual 251, 3) := dk_182 0 251 (dk_at dksX1_cheapest_1 4 rfl rfl)
theorem dX1_cheapest_31 : decode cX1_cheapest 31 = .ok (.aload_n 0, 1) := dk_42 (dk_at dksX1_cheapest_1 7 rfl rfl)
theorem dX1_cheapest_32 : decode cX1_cheapest 32 = .ok (.iload_n 3, 1) := dk_29 (dk_at dksX1_cheapest_1 8 rfl rfl)
theorem dX1_cheapest_33 : decode cX1_cheapest 33 = .ok (.invokeinterface 96 2, 5) := by decide +kernel
theorem dX1_cheapest_38 : decode cX1_cheapest 38 = .ok (.checkcast 245, 3) := dk_192 0 245 (dk_at dksX1_cheapest_1 14 rfl rfl)
theorem dX1_cheapest_41 : decode cX1_cheapest 41 = .ok (.lload_n 1, 1) := dk_31 (dk_at dksX1_cheapest_1 17 rfl rfl)
theorem dX1_cheapest_42 : decode cX1_cheapest 42 = .ok (.invokevirtual 251, 3) := dk_182 0 251 (dk_at dksX1_cheapest_1 18 rfl rfl)
theorem dX1_cheapest_45 : decode cX1_cheapest 45 = .ok (.lcmp, 1) := dk_148 (dk_at dksX1_cheapest_1 21 rfl rfl)
theorem dX1_cheapest_46 : decode cX1_cheapest 46 = .ok (.ifCond .ge 8, 3) := dk_156 0 8 (dk_at dksX1_cheapest_2 0 rfl rfl)
theorem dX1_cheapest_49 : decode cX1_cheapest 49 = .ok (.iload 4, 2) := dk_21 4 (dk_at dksX1_cheapest_2 3 rfl rfl)
theorem dX1_cheapest_51 : decode cX1_cheapest 51 = .ok (.goto 4, 3) := dk_167 0 4 (dk_at dksX1_cheapest_2 5 rfl rfl)
theorem dX1_cheapest_54 : decode cX1_cheapest 54 = .ok (.iload_n 3, 1) := dk_29 (dk_at dksX1_cheapest_2 8 rfl rfl)
theorem dX1_cheapest_55 : decode cX1_cheapest 55 = .ok (.istore_n 3, 1) := dk_62 (dk_at dksX1_cheapest_2 9 rfl rfl)
theorem dX1_cheapest_56 : decode cX1_cheapest 56 = .ok (.iinc 4 1, 3) := dk_132 4 1 (dk_at dksX1_cheapest_2 10 rfl rfl)
theorem dX1_cheapest_59 : decode cX1_cheapest 59 = .ok (.goto (-54), 3) := dk_167 255 202 (dk_at dksX1_cheapest_2 13 rfl rfl)
theorem dX1_cheapest_62 : decode cX1_cheapest 62 = .ok (.iload_n 3, 1) := dk_29 (dk_at dksX1_cheapest_2 16 rfl rfl)
theorem dX1_cheapest_63 : decode cX1_cheapest 63 = .ok (.ireturn, 1) := dk_172 (dk_at dksX1_cheapest_2 17 rfl rfl)
abbrev cX1_sales : ByteArray := prog_1_method_50_code
def yX1_sales : MethodName := ⟨RX1, "sales", "(I)J"⟩
def dkwX1_sales_0 : List UInt8 := [42, 27, 182, 0, 121, 180, 1, 16, 173]
abbrev dktX1_sales_0 : List UInt8 := dkwX1_sales_0 ++ []
theorem dksX1_sales_0 : cX1_sales.data.toList.drop 0 = dktX1_sales_0 := by decide +kernel
theorem dX1_sales_0 : decode cX1_sales 0 = .ok (.aload_n 0, 1) := dk_42 (dk_at dksX1_sales_0 0 rfl rfl)
theorem dX1_sales_1 : decode cX1_sales 1 = .ok (.iload_n 1, 1) := dk_27 (dk_at dksX1_sales_0 1 rfl rfl)
theorem dX1_sales_2 : decode cX1_sales 2 = .ok (.invokevirtual 121, 3) := dk_182 0 121 (dk_at dksX1_sales_0 2 rfl rfl)
theorem dX1_sales_5 : decode cX1_sales 5 = .ok (.getfield 272, 3) := dk_180 1 16 (dk_at dksX1_sales_0 5 rfl rfl)
theorem dX1_sales_8 : decode cX1_sales 8 = .ok (.lreturn, 1) := dk_173 (dk_at dksX1_sales_0 8 rfl rfl)
abbrev cX1_salesOf : ByteArray := prog_1_method_51_code
def yX1_salesOf : MethodName := ⟨RX1, "salesOf", "(II)J"⟩
def dkwX1_salesOf_1 : List UInt8 := [28, 47, 173]
abbrev dktX1_salesOf_1 : List UInt8 := dkwX1_salesOf_1 ++ []
def dkwX1_salesOf_0 : List UInt8 := [42, 27, 182, 0, 134, 78, 4, 188, 4, 89, 3, 42, 28, 182, 1, 24, 84, 184, 0, 168, 45, 180, 1, 27]
abbrev dktX1_salesOf_0 : List UInt8 := dkwX1_salesOf_0 ++ dktX1_salesOf_1
theorem dksX1_salesOf_0 : cX1_salesOf.data.toList.drop 0 = dktX1_salesOf_0 := by decide +kernel
theorem dksX1_salesOf_1 : cX1_salesOf.data.toList.drop 24 = dktX1_salesOf_1 := dk_seg dksX1_salesOf_0 24 rfl rfl
theorem dX1_salesOf_0 : decode cX1_salesOf 0 = .ok (.aload_n 0, 1) := dk_42 (dk_at dksX1_salesOf_0 0 rfl rfl)
theorem dX1_salesOf_1 : decode cX1_salesOf 1 = .ok (.iload_n 1, 1) := dk_27 (dk_at dksX1_salesOf_0 1 rfl rfl)
theorem dX1_salesOf_2 : decode cX1_salesOf 2 = .ok (.invokevirtual 134, 3) := dk_182 0 134 (dk_at dksX1_salesOf_0 2 rfl rfl)
theorem dX1_salesOf_5 : decode cX1_salesOf 5 = .ok (.astore_n 3, 1) := dk_78 (dk_at dksX1_salesOf_0 5 rfl rfl)
theorem dX1_salesOf_6 : decode cX1_salesOf 6 = .ok (.iconst 1, 1) := dk_4 (dk_at dksX1_salesOf_0 6 rfl rfl)
theorem dX1_salesOf_7 : decode cX1_salesOf 7 = .ok (.newarray .boolean, 2) := dk_188_4 (dk_at dksX1_salesOf_0 7 rfl rfl)
theorem dX1_salesOf_9 : decode cX1_salesOf 9 = .ok (.dup, 1) := dk_89 (dk_at dksX1_salesOf_0 9 rfl rfl)
theorem dX1_salesOf_10 : decode cX1_salesOf 10 = .ok (.iconst 0, 1) := dk_3 (dk_at dksX1_salesOf_0 10 rfl rfl)
theorem dX1_salesOf_11 : decode cX1_salesOf 11 = .ok (.aload_n 0, 1) := dk_42 (dk_at dksX1_salesOf_0 11 rfl rfl)
theorem dX1_salesOf_12 : decode cX1_salesOf 12 = .ok (.iload_n 2, 1) := dk_28 (dk_at dksX1_salesOf_0 12 rfl rfl)
theorem dX1_salesOf_13 : decode cX1_salesOf 13 = .ok (.invokevirtual 280, 3) := dk_182 1 24 (dk_at dksX1_salesOf_0 13 rfl rfl)
theorem dX1_salesOf_16 : decode cX1_salesOf 16 = .ok (.bastore, 1) := dk_84 (dk_at dksX1_salesOf_0 16 rfl rfl)
theorem dX1_salesOf_17 : decode cX1_salesOf 17 = .ok (.invokestatic 168, 3) := dk_184 0 168 (dk_at dksX1_salesOf_0 17 rfl rfl)
theorem dX1_salesOf_20 : decode cX1_salesOf 20 = .ok (.aload_n 3, 1) := dk_45 (dk_at dksX1_salesOf_0 20 rfl rfl)
theorem dX1_salesOf_21 : decode cX1_salesOf 21 = .ok (.getfield 283, 3) := dk_180 1 27 (dk_at dksX1_salesOf_0 21 rfl rfl)
theorem dX1_salesOf_24 : decode cX1_salesOf 24 = .ok (.iload_n 2, 1) := dk_28 (dk_at dksX1_salesOf_1 0 rfl rfl)
theorem dX1_salesOf_25 : decode cX1_salesOf 25 = .ok (.laload, 1) := dk_47 (dk_at dksX1_salesOf_1 1 rfl rfl)
theorem dX1_salesOf_26 : decode cX1_salesOf 26 = .ok (.lreturn, 1) := dk_173 (dk_at dksX1_salesOf_1 2 rfl rfl)
abbrev cX1_isClosed : ByteArray := prog_1_method_14_code
def yX1_isClosed : MethodName := ⟨RX1, "isClosed", "(I)Z"⟩
def dkwX1_isClosed_0 : List UInt8 := [27, 133, 9, 42, 180, 0, 39, 180, 0, 111, 4, 100, 133, 184, 0, 84, 172]
abbrev dktX1_isClosed_0 : List UInt8 := dkwX1_isClosed_0 ++ []
theorem dksX1_isClosed_0 : cX1_isClosed.data.toList.drop 0 = dktX1_isClosed_0 := by decide +kernel
theorem dX1_isClosed_0 : decode cX1_isClosed 0 = .ok (.iload_n 1, 1) := dk_27 (dk_at dksX1_isClosed_0 0 rfl rfl)
theorem dX1_isClosed_1 : decode cX1_isClosed 1 = .ok (.i2l, 1) := dk_133 (dk_at dksX1_isClosed_0 1 rfl rfl)
theorem dX1_isClosed_2 : decode cX1_isClosed 2 = .ok (.lconst 0, 1) := dk_9 (dk_at dksX1_isClosed_0 2 rfl rfl)
theorem dX1_isClosed_3 : decode cX1_isClosed 3 = .ok (.aload_n 0, 1) := dk_42 (dk_at dksX1_isClosed_0 3 rfl rfl)
theorem dX1_isClosed_4 : decode cX1_isClosed 4 = .ok (.getfield 39, 3) := dk_180 0 39 (dk_at dksX1_isClosed_0 4 rfl rfl)
theorem dX1_isClosed_7 : decode cX1_isClosed 7 = .ok (.getfield 111, 3) := dk_180 0 111 (dk_at dksX1_isClosed_0 7 rfl rfl)
theorem dX1_isClosed_10 : decode cX1_isClosed 10 = .ok (.iconst 1, 1) := dk_4 (dk_at dksX1_isClosed_0 10 rfl rfl)
theorem dX1_isClosed_11 : decode cX1_isClosed 11 = .ok (.isub, 1) := dk_100 (dk_at dksX1_isClosed_0 11 rfl rfl)
theorem dX1_isClosed_12 : decode cX1_isClosed 12 = .ok (.i2l, 1) := dk_133 (dk_at dksX1_isClosed_0 12 rfl rfl)
theorem dX1_isClosed_13 : decode cX1_isClosed 13 = .ok (.invokestatic 84, 3) := dk_184 0 84 (dk_at dksX1_isClosed_0 13 rfl rfl)
theorem dX1_isClosed_16 : decode cX1_isClosed 16 = .ok (.ireturn, 1) := dk_172 (dk_at dksX1_isClosed_0 16 rfl rfl)
abbrev cX1_creditDue : ByteArray := prog_1_method_53_code
def yX1_creditDue : MethodName := ⟨RX1, "creditDue", "(II)J"⟩
def dkwX1_creditDue_1 : List UInt8 := [180, 0, 39, 27, 28, 182, 1, 34, 173]
abbrev dktX1_creditDue_1 : List UInt8 := dkwX1_creditDue_1 ++ []
def dkwX1_creditDue_0 : List UInt8 := [5, 188, 4, 89, 3, 42, 27, 182, 0, 88, 84, 89, 4, 42, 28, 182, 0, 88, 84, 184, 0, 92, 42]
abbrev dktX1_creditDue_0 : List UInt8 := dkwX1_creditDue_0 ++ dktX1_creditDue_1
theorem dksX1_creditDue_0 : cX1_creditDue.data.toList.drop 0 = dktX1_creditDue_0 := by decide +kernel
theorem dksX1_creditDue_1 : cX1_creditDue.data.toList.drop 23 = dktX1_creditDue_1 := dk_seg dksX1_creditDue_0 23 rfl rfl
theorem dX1_creditDue_0 : decode cX1_creditDue 0 = .ok (.iconst 2, 1) := dk_5 (dk_at dksX1_creditDue_0 0 rfl rfl)
theorem dX1_creditDue_1 : decode cX1_creditDue 1 = .ok (.newarray .boolean, 2) := dk_188_4 (dk_at dksX1_creditDue_0 1 rfl rfl)
theorem dX1_creditDue_3 : decode cX1_creditDue 3 = .ok (.dup, 1) := dk_89 (dk_at dksX1_creditDue_0 3 rfl rfl)
theorem dX1_creditDue_4 : decode cX1_creditDue 4 = .ok (.iconst 0, 1) := dk_3 (dk_at dksX1_creditDue_0 4 rfl rfl)
theorem dX1_creditDue_5 : decode cX1_creditDue 5 = .ok (.aload_n 0, 1) := dk_42 (dk_at dksX1_creditDue_0 5 rfl rfl)
theorem dX1_creditDue_6 : decode cX1_creditDue 6 = .ok (.iload_n 1, 1) := dk_27 (dk_at dksX1_creditDue_0 6 rfl rfl)
theorem dX1_creditDue_7 : decode cX1_creditDue 7 = .ok (.invokevirtual 88, 3) := dk_182 0 88 (dk_at dksX1_creditDue_0 7 rfl rfl)
theorem dX1_creditDue_10 : decode cX1_creditDue 10 = .ok (.bastore, 1) := dk_84 (dk_at dksX1_creditDue_0 10 rfl rfl)
theorem dX1_creditDue_11 : decode cX1_creditDue 11 = .ok (.dup, 1) := dk_89 (dk_at dksX1_creditDue_0 11 rfl rfl)
theorem dX1_creditDue_12 : decode cX1_creditDue 12 = .ok (.iconst 1, 1) := dk_4 (dk_at dksX1_creditDue_0 12 rfl rfl)
theorem dX1_creditDue_13 : decode cX1_creditDue 13 = .ok (.aload_n 0, 1) := dk_42 (dk_at dksX1_creditDue_0 13 rfl rfl)
theorem dX1_creditDue_14 : decode cX1_creditDue 14 = .ok (.iload_n 2, 1) := dk_28 (dk_at dksX1_creditDue_0 14 rfl rfl)
theorem dX1_creditDue_15 : decode cX1_creditDue 15 = .ok (.invokevirtual 88, 3) := dk_182 0 88 (dk_at dksX1_creditDue_0 15 rfl rfl)
theorem dX1_creditDue_18 : decode cX1_creditDue 18 = .ok (.bastore, 1) := dk_84 (dk_at dksX1_creditDue_0 18 rfl rfl)
theorem dX1_creditDue_19 : decode cX1_creditDue 19 = .ok (.invokestatic 92, 3) := dk_184 0 92 (dk_at dksX1_creditDue_0 19 rfl rfl)
theorem dX1_creditDue_22 : decode cX1_creditDue 22 = .ok (.aload_n 0, 1) := dk_42 (dk_at dksX1_creditDue_0 22 rfl rfl)
theorem dX1_creditDue_23 : decode cX1_creditDue 23 = .ok (.getfield 39, 3) := dk_180 0 39 (dk_at dksX1_creditDue_1 0 rfl rfl)
theorem dX1_creditDue_26 : decode cX1_creditDue 26 = .ok (.iload_n 1, 1) := dk_27 (dk_at dksX1_creditDue_1 3 rfl rfl)
theorem dX1_creditDue_27 : decode cX1_creditDue 27 = .ok (.iload_n 2, 1) := dk_28 (dk_at dksX1_creditDue_1 4 rfl rfl)
theorem dX1_creditDue_28 : decode cX1_creditDue 28 = .ok (.invokevirtual 290, 3) := dk_182 1 34 (dk_at dksX1_creditDue_1 5 rfl rfl)
theorem dX1_creditDue_31 : decode cX1_creditDue 31 = .ok (.lreturn, 1) := dk_173 (dk_at dksX1_creditDue_1 8 rfl rfl)
abbrev cX1_invoice : ByteArray := prog_1_method_55_code
def yX1_invoice : MethodName := ⟨RX1, "invoice", "(III)J"⟩
def dkwX1_invoice_1 : List UInt8 := [20, 1, 40, 184, 0, 84, 84, 184, 0, 168, 25, 4, 180, 1, 42, 28, 50, 29, 47, 173]
abbrev dktX1_invoice_1 : List UInt8 := dkwX1_invoice_1 ++ []
def dkwX1_invoice_0 : List UInt8 := [42, 27, 182, 0, 134, 58, 4, 5, 188, 4, 89, 3, 42, 28, 182, 1, 24, 84, 89, 4, 29, 133, 9]
abbrev dktX1_invoice_0 : List UInt8 := dkwX1_invoice_0 ++ dktX1_invoice_1
theorem dksX1_invoice_0 : cX1_invoice.data.toList.drop 0 = dktX1_invoice_0 := by decide +kernel
theorem dksX1_invoice_1 : cX1_invoice.data.toList.drop 23 = dktX1_invoice_1 := dk_seg dksX1_invoice_0 23 rfl rfl
theorem dX1_invoice_0 : decode cX1_invoice 0 = .ok (.aload_n 0, 1) := dk_42 (dk_at dksX1_invoice_0 0 rfl rfl)
theorem dX1_invoice_1 : decode cX1_invoice 1 = .ok (.iload_n 1, 1) := dk_27 (dk_at dksX1_invoice_0 1 rfl rfl)
theorem dX1_invoice_2 : decode cX1_invoice 2 = .ok (.invokevirtual 134, 3) := dk_182 0 134 (dk_at dksX1_invoice_0 2 rfl rfl)
theorem dX1_invoice_5 : decode cX1_invoice 5 = .ok (.astore 4, 2) := dk_58 4 (dk_at dksX1_invoice_0 5 rfl rfl)
theorem dX1_invoice_7 : decode cX1_invoice 7 = .ok (.iconst 2, 1) := dk_5 (dk_at dksX1_invoice_0 7 rfl rfl)
theorem dX1_invoice_8 : decode cX1_invoice 8 = .ok (.newarray .boolean, 2) := dk_188_4 (dk_at dksX1_invoice_0 8 rfl rfl)
theorem dX1_invoice_10 : decode cX1_invoice 10 = .ok (.dup, 1) := dk_89 (dk_at dksX1_invoice_0 10 rfl rfl)
theorem dX1_invoice_11 : decode cX1_invoice 11 = .ok (.iconst 0, 1) := dk_3 (dk_at dksX1_invoice_0 11 rfl rfl)
theorem dX1_invoice_12 : decode cX1_invoice 12 = .ok (.aload_n 0, 1) := dk_42 (dk_at dksX1_invoice_0 12 rfl rfl)
theorem dX1_invoice_13 : decode cX1_invoice 13 = .ok (.iload_n 2, 1) := dk_28 (dk_at dksX1_invoice_0 13 rfl rfl)
theorem dX1_invoice_14 : decode cX1_invoice 14 = .ok (.invokevirtual 280, 3) := dk_182 1 24 (dk_at dksX1_invoice_0 14 rfl rfl)
theorem dX1_invoice_17 : decode cX1_invoice 17 = .ok (.bastore, 1) := dk_84 (dk_at dksX1_invoice_0 17 rfl rfl)
theorem dX1_invoice_18 : decode cX1_invoice 18 = .ok (.dup, 1) := dk_89 (dk_at dksX1_invoice_0 18 rfl rfl)
theorem dX1_invoice_19 : decode cX1_invoice 19 = .ok (.iconst 1, 1) := dk_4 (dk_at dksX1_invoice_0 19 rfl rfl)
theorem dX1_invoice_20 : decode cX1_invoice 20 = .ok (.iload_n 3, 1) := dk_29 (dk_at dksX1_invoice_0 20 rfl rfl)
theorem dX1_invoice_21 : decode cX1_invoice 21 = .ok (.i2l, 1) := dk_133 (dk_at dksX1_invoice_0 21 rfl rfl)
theorem dX1_invoice_22 : decode cX1_invoice 22 = .ok (.lconst 0, 1) := dk_9 (dk_at dksX1_invoice_0 22 rfl rfl)
theorem dX1_invoice_23 : decode cX1_invoice 23 = .ok (.ldc2_w 296, 3) := dk_20 1 40 (dk_at dksX1_invoice_1 0 rfl rfl)
theorem dX1_invoice_26 : decode cX1_invoice 26 = .ok (.invokestatic 84, 3) := dk_184 0 84 (dk_at dksX1_invoice_1 3 rfl rfl)
theorem dX1_invoice_29 : decode cX1_invoice 29 = .ok (.bastore, 1) := dk_84 (dk_at dksX1_invoice_1 6 rfl rfl)
theorem dX1_invoice_30 : decode cX1_invoice 30 = .ok (.invokestatic 168, 3) := dk_184 0 168 (dk_at dksX1_invoice_1 7 rfl rfl)
theorem dX1_invoice_33 : decode cX1_invoice 33 = .ok (.aload 4, 2) := dk_25 4 (dk_at dksX1_invoice_1 10 rfl rfl)
theorem dX1_invoice_35 : decode cX1_invoice 35 = .ok (.getfield 298, 3) := dk_180 1 42 (dk_at dksX1_invoice_1 12 rfl rfl)
theorem dX1_invoice_38 : decode cX1_invoice 38 = .ok (.iload_n 2, 1) := dk_28 (dk_at dksX1_invoice_1 15 rfl rfl)
theorem dX1_invoice_39 : decode cX1_invoice 39 = .ok (.aaload, 1) := dk_50 (dk_at dksX1_invoice_1 16 rfl rfl)
theorem dX1_invoice_40 : decode cX1_invoice 40 = .ok (.iload_n 3, 1) := dk_29 (dk_at dksX1_invoice_1 17 rfl rfl)
theorem dX1_invoice_41 : decode cX1_invoice 41 = .ok (.laload, 1) := dk_47 (dk_at dksX1_invoice_1 18 rfl rfl)
theorem dX1_invoice_42 : decode cX1_invoice 42 = .ok (.lreturn, 1) := dk_173 (dk_at dksX1_invoice_1 19 rfl rfl)
abbrev cX1_predictDue : ByteArray := prog_1_method_56_code
def yX1_predictDue : MethodName := ⟨RX1, "predictDue", "(II)J"⟩
def dkwX1_predictDue_1 : List UInt8 := [20, 1, 45, 184, 0, 84, 84, 184, 0, 168, 42, 180, 0, 39, 27, 28, 182, 1, 47, 8, 47, 173]
abbrev dktX1_predictDue_1 : List UInt8 := dkwX1_predictDue_1 ++ []
def dkwX1_predictDue_0 : List UInt8 := [4, 188, 4, 89, 3, 42, 27, 182, 0, 88, 84, 184, 0, 92, 4, 188, 4, 89, 3, 28, 133, 9]
abbrev dktX1_predictDue_0 : List UInt8 := dkwX1_predictDue_0 ++ dktX1_predictDue_1
theorem dksX1_predictDue_0 : cX1_predictDue.data.toList.drop 0 = dktX1_predictDue_0 := by decide +kernel
theorem dksX1_predictDue_1 : cX1_predictDue.data.toList.drop 22 = dktX1_predictDue_1 := dk_seg dksX1_predictDue_0 22 rfl rfl
theorem dX1_predictDue_0 : decode cX1_predictDue 0 = .ok (.iconst 1, 1) := dk_4 (dk_at dksX1_predictDue_0 0 rfl rfl)
theorem dX1_predictDue_1 : decode cX1_predictDue 1 = .ok (.newarray .boolean, 2) := dk_188_4 (dk_at dksX1_predictDue_0 1 rfl rfl)
theorem dX1_predictDue_3 : decode cX1_predictDue 3 = .ok (.dup, 1) := dk_89 (dk_at dksX1_predictDue_0 3 rfl rfl)
theorem dX1_predictDue_4 : decode cX1_predictDue 4 = .ok (.iconst 0, 1) := dk_3 (dk_at dksX1_predictDue_0 4 rfl rfl)
theorem dX1_predictDue_5 : decode cX1_predictDue 5 = .ok (.aload_n 0, 1) := dk_42 (dk_at dksX1_predictDue_0 5 rfl rfl)
theorem dX1_predictDue_6 : decode cX1_predictDue 6 = .ok (.iload_n 1, 1) := dk_27 (dk_at dksX1_predictDue_0 6 rfl rfl)
theorem dX1_predictDue_7 : decode cX1_predictDue 7 = .ok (.invokevirtual 88, 3) := dk_182 0 88 (dk_at dksX1_predictDue_0 7 rfl rfl)
theorem dX1_predictDue_10 : decode cX1_predictDue 10 = .ok (.bastore, 1) := dk_84 (dk_at dksX1_predictDue_0 10 rfl rfl)
theorem dX1_predictDue_11 : decode cX1_predictDue 11 = .ok (.invokestatic 92, 3) := dk_184 0 92 (dk_at dksX1_predictDue_0 11 rfl rfl)
theorem dX1_predictDue_14 : decode cX1_predictDue 14 = .ok (.iconst 1, 1) := dk_4 (dk_at dksX1_predictDue_0 14 rfl rfl)
theorem dX1_predictDue_15 : decode cX1_predictDue 15 = .ok (.newarray .boolean, 2) := dk_188_4 (dk_at dksX1_predictDue_0 15 rfl rfl)
theorem dX1_predictDue_17 : decode cX1_predictDue 17 = .ok (.dup, 1) := dk_89 (dk_at dksX1_predictDue_0 17 rfl rfl)
theorem dX1_predictDue_18 : decode cX1_predictDue 18 = .ok (.iconst 0, 1) := dk_3 (dk_at dksX1_predictDue_0 18 rfl rfl)
theorem dX1_predictDue_19 : decode cX1_predictDue 19 = .ok (.iload_n 2, 1) := dk_28 (dk_at dksX1_predictDue_0 19 rfl rfl)
theorem dX1_predictDue_20 : decode cX1_predictDue 20 = .ok (.i2l, 1) := dk_133 (dk_at dksX1_predictDue_0 20 rfl rfl)
theorem dX1_predictDue_21 : decode cX1_predictDue 21 = .ok (.lconst 0, 1) := dk_9 (dk_at dksX1_predictDue_0 21 rfl rfl)
theorem dX1_predictDue_22 : decode cX1_predictDue 22 = .ok (.ldc2_w 301, 3) := dk_20 1 45 (dk_at dksX1_predictDue_1 0 rfl rfl)
theorem dX1_predictDue_25 : decode cX1_predictDue 25 = .ok (.invokestatic 84, 3) := dk_184 0 84 (dk_at dksX1_predictDue_1 3 rfl rfl)
theorem dX1_predictDue_28 : decode cX1_predictDue 28 = .ok (.bastore, 1) := dk_84 (dk_at dksX1_predictDue_1 6 rfl rfl)
theorem dX1_predictDue_29 : decode cX1_predictDue 29 = .ok (.invokestatic 168, 3) := dk_184 0 168 (dk_at dksX1_predictDue_1 7 rfl rfl)
theorem dX1_predictDue_32 : decode cX1_predictDue 32 = .ok (.aload_n 0, 1) := dk_42 (dk_at dksX1_predictDue_1 10 rfl rfl)
theorem dX1_predictDue_33 : decode cX1_predictDue 33 = .ok (.getfield 39, 3) := dk_180 0 39 (dk_at dksX1_predictDue_1 11 rfl rfl)
theorem dX1_predictDue_36 : decode cX1_predictDue 36 = .ok (.iload_n 1, 1) := dk_27 (dk_at dksX1_predictDue_1 14 rfl rfl)
theorem dX1_predictDue_37 : decode cX1_predictDue 37 = .ok (.iload_n 2, 1) := dk_28 (dk_at dksX1_predictDue_1 15 rfl rfl)
theorem dX1_predictDue_38 : decode cX1_predictDue 38 = .ok (.invokevirtual 303, 3) := dk_182 1 47 (dk_at dksX1_predictDue_1 16 rfl rfl)
theorem dX1_predictDue_41 : decode cX1_predictDue 41 = .ok (.iconst 5, 1) := dk_8 (dk_at dksX1_predictDue_1 19 rfl rfl)
theorem dX1_predictDue_42 : decode cX1_predictDue 42 = .ok (.laload, 1) := dk_47 (dk_at dksX1_predictDue_1 20 rfl rfl)
theorem dX1_predictDue_43 : decode cX1_predictDue 43 = .ok (.lreturn, 1) := dk_173 (dk_at dksX1_predictDue_1 21 rfl rfl)
abbrev cX1_balance : ByteArray := prog_1_method_26_code
def yX1_balance : MethodName := ⟨RX1, "balance", "(I)J"⟩
def dkwX1_balance_0 : List UInt8 := [42, 27, 182, 0, 134, 180, 0, 153, 173]
abbrev dktX1_balance_0 : List UInt8 := dkwX1_balance_0 ++ []
theorem dksX1_balance_0 : cX1_balance.data.toList.drop 0 = dktX1_balance_0 := by decide +kernel
theorem dX1_balance_0 : decode cX1_balance 0 = .ok (.aload_n 0, 1) := dk_42 (dk_at dksX1_balance_0 0 rfl rfl)
theorem dX1_balance_1 : decode cX1_balance 1 = .ok (.iload_n 1, 1) := dk_27 (dk_at dksX1_balance_0 1 rfl rfl)
theorem dX1_balance_2 : decode cX1_balance 2 = .ok (.invokevirtual 134, 3) := dk_182 0 134 (dk_at dksX1_balance_0 2 rfl rfl)
theorem dX1_balance_5 : decode cX1_balance 5 = .ok (.getfield 153, 3) := dk_180 0 153 (dk_at dksX1_balance_0 5 rfl rfl)
theorem dX1_balance_8 : decode cX1_balance 8 = .ok (.lreturn, 1) := dk_173 (dk_at dksX1_balance_0 8 rfl rfl)
abbrev cX1_monthsOverdue : ByteArray := prog_1_method_25_code
def yX1_monthsOverdue : MethodName := ⟨RX1, "monthsOverdue", "(I)I"⟩
def dkwX1_monthsOverdue_0 : List UInt8 := [42, 27, 182, 0, 134, 180, 0, 150, 172]
abbrev dktX1_monthsOverdue_0 : List UInt8 := dkwX1_monthsOverdue_0 ++ []
theorem dksX1_monthsOverdue_0 : cX1_monthsOverdue.data.toList.drop 0 = dktX1_monthsOverdue_0 := by decide +kernel
theorem dX1_monthsOverdue_0 : decode cX1_monthsOverdue 0 = .ok (.aload_n 0, 1) := dk_42 (dk_at dksX1_monthsOverdue_0 0 rfl rfl)
theorem dX1_monthsOverdue_1 : decode cX1_monthsOverdue 1 = .ok (.iload_n 1, 1) := dk_27 (dk_at dksX1_monthsOverdue_0 1 rfl rfl)
theorem dX1_monthsOverdue_2 : decode cX1_monthsOverdue 2 = .ok (.invokevirtual 134, 3) := dk_182 0 134 (dk_at dksX1_monthsOverdue_0 2 rfl rfl)
theorem dX1_monthsOverdue_5 : decode cX1_monthsOverdue 5 = .ok (.getfield 150, 3) := dk_180 0 150 (dk_at dksX1_monthsOverdue_0 5 rfl rfl)
theorem dX1_monthsOverdue_8 : decode cX1_monthsOverdue 8 = .ok (.ireturn, 1) := dk_172 (dk_at dksX1_monthsOverdue_0 8 rfl rfl)
abbrev cX1_payOff : ByteArray := prog_1_method_59_code
def yX1_payOff : MethodName := ⟨RX1, "payOff", "(IJ)I"⟩
def dkwX1_payOff_3 : List UInt8 := [158, 0, 7, 2, 167, 0, 5, 21, 6, 172]
abbrev dktX1_payOff_3 : List UInt8 := dkwX1_payOff_3 ++ []
def dkwX1_payOff_2 : List UInt8 := [180, 1, 59, 22, 4, 182, 1, 63, 32, 101, 97, 55, 4, 132, 6, 1, 167, 255, 220, 22, 4, 9, 148]
abbrev dktX1_payOff_2 : List UInt8 := dkwX1_payOff_2 ++ dktX1_payOff_3
def dkwX1_payOff_1 : List UInt8 := [54, 6, 22, 4, 9, 148, 158, 0, 35, 21, 6, 16, 120, 162, 0, 28, 22, 4, 42, 180, 0, 30]
abbrev dktX1_payOff_1 : List UInt8 := dkwX1_payOff_1 ++ dktX1_payOff_2
def dkwX1_payOff_0 : List UInt8 := [42, 27, 182, 0, 134, 180, 0, 153, 55, 4, 4, 188, 4, 89, 3, 32, 184, 1, 55, 84, 184, 0, 168, 3]
abbrev dktX1_payOff_0 : List UInt8 := dkwX1_payOff_0 ++ dktX1_payOff_1
theorem dksX1_payOff_0 : cX1_payOff.data.toList.drop 0 = dktX1_payOff_0 := by decide +kernel
theorem dksX1_payOff_1 : cX1_payOff.data.toList.drop 24 = dktX1_payOff_1 := dk_seg dksX1_payOff_0 24 rfl rfl
theorem dksX1_payOff_2 : cX1_payOff.data.toList.drop 46 = dktX1_payOff_2 := dk_seg dksX1_payOff_1 22 rfl rfl
theorem dksX1_payOff_3 : cX1_payOff.data.toList.drop 69 = dktX1_payOff_3 := dk_seg dksX1_payOff_2 23 rfl rfl
theorem dX1_payOff_0 : decode cX1_payOff 0 = .ok (.aload_n 0, 1) := dk_42 (dk_at dksX1_payOff_0 0 rfl rfl)
theorem dX1_payOff_1 : decode cX1_payOff 1 = .ok (.iload_n 1, 1) := dk_27 (dk_at dksX1_payOff_0 1 rfl rfl)
theorem dX1_payOff_2 : decode cX1_payOff 2 = .ok (.invokevirtual 134, 3) := dk_182 0 134 (dk_at dksX1_payOff_0 2 rfl rfl)
theorem dX1_payOff_5 : decode cX1_payOff 5 = .ok (.getfield 153, 3) := dk_180 0 153 (dk_at dksX1_payOff_0 5 rfl rfl)
theorem dX1_payOff_8 : decode cX1_payOff 8 = .ok (.lstore 4, 2) := dk_55 4 (dk_at dksX1_payOff_0 8 rfl rfl)
theorem dX1_payOff_10 : decode cX1_payOff 10 = .ok (.iconst 1, 1) := dk_4 (dk_at dksX1_payOff_0 10 rfl rfl)
theorem dX1_payOff_11 : decode cX1_payOff 11 = .ok (.newarray .boolean, 2) := dk_188_4 (dk_at dksX1_payOff_0 11 rfl rfl)
theorem dX1_payOff_13 : decode cX1_payOff 13 = .ok (.dup, 1) := dk_89 (dk_at dksX1_payOff_0 13 rfl rfl)
theorem dX1_payOff_14 : decode cX1_payOff 14 = .ok (.iconst 0, 1) := dk_3 (dk_at dksX1_payOff_0 14 rfl rfl)
theorem dX1_payOff_15 : decode cX1_payOff 15 = .ok (.lload_n 2, 1) := dk_32 (dk_at dksX1_payOff_0 15 rfl rfl)
theorem dX1_payOff_16 : decode cX1_payOff 16 = .ok (.invokestatic 311, 3) := dk_184 1 55 (dk_at dksX1_payOff_0 16 rfl rfl)
theorem dX1_payOff_19 : decode cX1_payOff 19 = .ok (.bastore, 1) := dk_84 (dk_at dksX1_payOff_0 19 rfl rfl)
theorem dX1_payOff_20 : decode cX1_payOff 20 = .ok (.invokestatic 168, 3) := dk_184 0 168 (dk_at dksX1_payOff_0 20 rfl rfl)
theorem dX1_payOff_23 : decode cX1_payOff 23 = .ok (.iconst 0, 1) := dk_3 (dk_at dksX1_payOff_0 23 rfl rfl)
theorem dX1_payOff_24 : decode cX1_payOff 24 = .ok (.istore 6, 2) := dk_54 6 (dk_at dksX1_payOff_1 0 rfl rfl)
theorem dX1_payOff_26 : decode cX1_payOff 26 = .ok (.lload 4, 2) := dk_22 4 (dk_at dksX1_payOff_1 2 rfl rfl)
theorem dX1_payOff_28 : decode cX1_payOff 28 = .ok (.lconst 0, 1) := dk_9 (dk_at dksX1_payOff_1 4 rfl rfl)
theorem dX1_payOff_29 : decode cX1_payOff 29 = .ok (.lcmp, 1) := dk_148 (dk_at dksX1_payOff_1 5 rfl rfl)
theorem dX1_payOff_30 : decode cX1_payOff 30 = .ok (.ifCond .le 35, 3) := dk_158 0 35 (dk_at dksX1_payOff_1 6 rfl rfl)
theorem dX1_payOff_33 : decode cX1_payOff 33 = .ok (.iload 6, 2) := dk_21 6 (dk_at dksX1_payOff_1 9 rfl rfl)
theorem dX1_payOff_35 : decode cX1_payOff 35 = .ok (.bipush 120, 2) := dk_16 120 (dk_at dksX1_payOff_1 11 rfl rfl)
theorem dX1_payOff_37 : decode cX1_payOff 37 = .ok (.if_icmp .ge 28, 3) := dk_162 0 28 (dk_at dksX1_payOff_1 13 rfl rfl)
theorem dX1_payOff_40 : decode cX1_payOff 40 = .ok (.lload 4, 2) := dk_22 4 (dk_at dksX1_payOff_1 16 rfl rfl)
theorem dX1_payOff_42 : decode cX1_payOff 42 = .ok (.aload_n 0, 1) := dk_42 (dk_at dksX1_payOff_1 18 rfl rfl)
theorem dX1_payOff_43 : decode cX1_payOff 43 = .ok (.getfield 30, 3) := dk_180 0 30 (dk_at dksX1_payOff_1 19 rfl rfl)
theorem dX1_payOff_46 : decode cX1_payOff 46 = .ok (.getfield 315, 3) := dk_180 1 59 (dk_at dksX1_payOff_2 0 rfl rfl)
theorem dX1_payOff_49 : decode cX1_payOff 49 = .ok (.lload 4, 2) := dk_22 4 (dk_at dksX1_payOff_2 3 rfl rfl)
theorem dX1_payOff_51 : decode cX1_payOff 51 = .ok (.invokevirtual 319, 3) := dk_182 1 63 (dk_at dksX1_payOff_2 5 rfl rfl)
theorem dX1_payOff_54 : decode cX1_payOff 54 = .ok (.lload_n 2, 1) := dk_32 (dk_at dksX1_payOff_2 8 rfl rfl)
theorem dX1_payOff_55 : decode cX1_payOff 55 = .ok (.lsub, 1) := dk_101 (dk_at dksX1_payOff_2 9 rfl rfl)
theorem dX1_payOff_56 : decode cX1_payOff 56 = .ok (.ladd, 1) := dk_97 (dk_at dksX1_payOff_2 10 rfl rfl)
theorem dX1_payOff_57 : decode cX1_payOff 57 = .ok (.lstore 4, 2) := dk_55 4 (dk_at dksX1_payOff_2 11 rfl rfl)
theorem dX1_payOff_59 : decode cX1_payOff 59 = .ok (.iinc 6 1, 3) := dk_132 6 1 (dk_at dksX1_payOff_2 13 rfl rfl)
theorem dX1_payOff_62 : decode cX1_payOff 62 = .ok (.goto (-36), 3) := dk_167 255 220 (dk_at dksX1_payOff_2 16 rfl rfl)
theorem dX1_payOff_65 : decode cX1_payOff 65 = .ok (.lload 4, 2) := dk_22 4 (dk_at dksX1_payOff_2 19 rfl rfl)
theorem dX1_payOff_67 : decode cX1_payOff 67 = .ok (.lconst 0, 1) := dk_9 (dk_at dksX1_payOff_2 21 rfl rfl)
theorem dX1_payOff_68 : decode cX1_payOff 68 = .ok (.lcmp, 1) := dk_148 (dk_at dksX1_payOff_2 22 rfl rfl)
theorem dX1_payOff_69 : decode cX1_payOff 69 = .ok (.ifCond .le 7, 3) := dk_158 0 7 (dk_at dksX1_payOff_3 0 rfl rfl)
theorem dX1_payOff_72 : decode cX1_payOff 72 = .ok (.iconst (-1), 1) := dk_2 (dk_at dksX1_payOff_3 3 rfl rfl)
theorem dX1_payOff_73 : decode cX1_payOff 73 = .ok (.goto 5, 3) := dk_167 0 5 (dk_at dksX1_payOff_3 4 rfl rfl)
theorem dX1_payOff_76 : decode cX1_payOff 76 = .ok (.iload 6, 2) := dk_21 6 (dk_at dksX1_payOff_3 7 rfl rfl)
theorem dX1_payOff_78 : decode cX1_payOff 78 = .ok (.ireturn, 1) := dk_172 (dk_at dksX1_payOff_3 9 rfl rfl)
abbrev cX1_terminate : ByteArray := prog_1_method_60_code
def yX1_terminate : MethodName := ⟨RX1, "terminate", "(I)Z"⟩
def dkwX1_terminate_1 : List UInt8 := [180, 0, 39, 27, 182, 1, 68, 4, 172]
abbrev dktX1_terminate_1 : List UInt8 := dkwX1_terminate_1 ++ []
def dkwX1_terminate_0 : List UInt8 := [42, 27, 182, 0, 134, 77, 44, 182, 0, 208, 153, 0, 11, 44, 180, 0, 150, 6, 162, 0, 5, 3, 172, 42]
abbrev dktX1_terminate_0 : List UInt8 := dkwX1_terminate_0 ++ dktX1_terminate_1
theorem dksX1_terminate_0 : cX1_terminate.data.toList.drop 0 = dktX1_terminate_0 := by decide +kernel
theorem dksX1_terminate_1 : cX1_terminate.data.toList.drop 24 = dktX1_terminate_1 := dk_seg dksX1_terminate_0 24 rfl rfl
theorem dX1_terminate_0 : decode cX1_terminate 0 = .ok (.aload_n 0, 1) := dk_42 (dk_at dksX1_terminate_0 0 rfl rfl)
theorem dX1_terminate_1 : decode cX1_terminate 1 = .ok (.iload_n 1, 1) := dk_27 (dk_at dksX1_terminate_0 1 rfl rfl)
theorem dX1_terminate_2 : decode cX1_terminate 2 = .ok (.invokevirtual 134, 3) := dk_182 0 134 (dk_at dksX1_terminate_0 2 rfl rfl)
theorem dX1_terminate_5 : decode cX1_terminate 5 = .ok (.astore_n 2, 1) := dk_77 (dk_at dksX1_terminate_0 5 rfl rfl)
theorem dX1_terminate_6 : decode cX1_terminate 6 = .ok (.aload_n 2, 1) := dk_44 (dk_at dksX1_terminate_0 6 rfl rfl)
theorem dX1_terminate_7 : decode cX1_terminate 7 = .ok (.invokevirtual 208, 3) := dk_182 0 208 (dk_at dksX1_terminate_0 7 rfl rfl)
theorem dX1_terminate_10 : decode cX1_terminate 10 = .ok (.ifCond .eq 11, 3) := dk_153 0 11 (dk_at dksX1_terminate_0 10 rfl rfl)
theorem dX1_terminate_13 : decode cX1_terminate 13 = .ok (.aload_n 2, 1) := dk_44 (dk_at dksX1_terminate_0 13 rfl rfl)
theorem dX1_terminate_14 : decode cX1_terminate 14 = .ok (.getfield 150, 3) := dk_180 0 150 (dk_at dksX1_terminate_0 14 rfl rfl)
theorem dX1_terminate_17 : decode cX1_terminate 17 = .ok (.iconst 3, 1) := dk_6 (dk_at dksX1_terminate_0 17 rfl rfl)
theorem dX1_terminate_18 : decode cX1_terminate 18 = .ok (.if_icmp .ge 5, 3) := dk_162 0 5 (dk_at dksX1_terminate_0 18 rfl rfl)
theorem dX1_terminate_21 : decode cX1_terminate 21 = .ok (.iconst 0, 1) := dk_3 (dk_at dksX1_terminate_0 21 rfl rfl)
theorem dX1_terminate_22 : decode cX1_terminate 22 = .ok (.ireturn, 1) := dk_172 (dk_at dksX1_terminate_0 22 rfl rfl)
theorem dX1_terminate_23 : decode cX1_terminate 23 = .ok (.aload_n 0, 1) := dk_42 (dk_at dksX1_terminate_0 23 rfl rfl)
theorem dX1_terminate_24 : decode cX1_terminate 24 = .ok (.getfield 39, 3) := dk_180 0 39 (dk_at dksX1_terminate_1 0 rfl rfl)
theorem dX1_terminate_27 : decode cX1_terminate 27 = .ok (.iload_n 1, 1) := dk_27 (dk_at dksX1_terminate_1 3 rfl rfl)
theorem dX1_terminate_28 : decode cX1_terminate 28 = .ok (.invokevirtual 324, 3) := dk_182 1 68 (dk_at dksX1_terminate_1 4 rfl rfl)
theorem dX1_terminate_31 : decode cX1_terminate 31 = .ok (.iconst 1, 1) := dk_4 (dk_at dksX1_terminate_1 7 rfl rfl)
theorem dX1_terminate_32 : decode cX1_terminate 32 = .ok (.ireturn, 1) := dk_172 (dk_at dksX1_terminate_1 8 rfl rfl)
abbrev cX1_status : ByteArray := prog_1_method_22_code
def yX1_status : MethodName := ⟨RX1, "status", "(I)I"⟩
def dkwX1_status_0 : List UInt8 := [42, 27, 182, 0, 134, 180, 0, 141, 172]
abbrev dktX1_status_0 : List UInt8 := dkwX1_status_0 ++ []
theorem dksX1_status_0 : cX1_status.data.toList.drop 0 = dktX1_status_0 := by decide +kernel
theorem dX1_status_0 : decode cX1_status 0 = .ok (.aload_n 0, 1) := dk_42 (dk_at dksX1_status_0 0 rfl rfl)
theorem dX1_status_1 : decode cX1_status 1 = .ok (.iload_n 1, 1) := dk_27 (dk_at dksX1_status_0 1 rfl rfl)
theorem dX1_status_2 : decode cX1_status 2 = .ok (.invokevirtual 134, 3) := dk_182 0 134 (dk_at dksX1_status_0 2 rfl rfl)
theorem dX1_status_5 : decode cX1_status 5 = .ok (.getfield 141, 3) := dk_180 0 141 (dk_at dksX1_status_0 5 rfl rfl)
theorem dX1_status_8 : decode cX1_status 8 = .ok (.ireturn, 1) := dk_172 (dk_at dksX1_status_0 8 rfl rfl)
abbrev cX1_contributions : ByteArray := prog_1_method_27_code
def yX1_contributions : MethodName := ⟨RX1, "contributions", "(I)J"⟩
def dkwX1_contributions_0 : List UInt8 := [42, 27, 182, 0, 134, 180, 0, 157, 173]
abbrev dktX1_contributions_0 : List UInt8 := dkwX1_contributions_0 ++ []
theorem dksX1_contributions_0 : cX1_contributions.data.toList.drop 0 = dktX1_contributions_0 := by decide +kernel
theorem dX1_contributions_0 : decode cX1_contributions 0 = .ok (.aload_n 0, 1) := dk_42 (dk_at dksX1_contributions_0 0 rfl rfl)
theorem dX1_contributions_1 : decode cX1_contributions 1 = .ok (.iload_n 1, 1) := dk_27 (dk_at dksX1_contributions_0 1 rfl rfl)
theorem dX1_contributions_2 : decode cX1_contributions 2 = .ok (.invokevirtual 134, 3) := dk_182 0 134 (dk_at dksX1_contributions_0 2 rfl rfl)
theorem dX1_contributions_5 : decode cX1_contributions 5 = .ok (.getfield 157, 3) := dk_180 0 157 (dk_at dksX1_contributions_0 5 rfl rfl)
theorem dX1_contributions_8 : decode cX1_contributions 8 = .ok (.lreturn, 1) := dk_173 (dk_at dksX1_contributions_0 8 rfl rfl)
abbrev cX1_spent : ByteArray := prog_1_method_62_code
def yX1_spent : MethodName := ⟨RX1, "spent", "(I)J"⟩
def dkwX1_spent_1 : List UInt8 := [180, 1, 76, 27, 47, 173]
abbrev dktX1_spent_1 : List UInt8 := dkwX1_spent_1 ++ []
def dkwX1_spent_0 : List UInt8 := [4, 188, 4, 89, 3, 27, 133, 9, 20, 1, 74, 184, 0, 84, 84, 184, 0, 168, 42, 180, 0, 39]
abbrev dktX1_spent_0 : List UInt8 := dkwX1_spent_0 ++ dktX1_spent_1
theorem dksX1_spent_0 : cX1_spent.data.toList.drop 0 = dktX1_spent_0 := by decide +kernel
theorem dksX1_spent_1 : cX1_spent.data.toList.drop 22 = dktX1_spent_1 := dk_seg dksX1_spent_0 22 rfl rfl
theorem dX1_spent_0 : decode cX1_spent 0 = .ok (.iconst 1, 1) := dk_4 (dk_at dksX1_spent_0 0 rfl rfl)
theorem dX1_spent_1 : decode cX1_spent 1 = .ok (.newarray .boolean, 2) := dk_188_4 (dk_at dksX1_spent_0 1 rfl rfl)
theorem dX1_spent_3 : decode cX1_spent 3 = .ok (.dup, 1) := dk_89 (dk_at dksX1_spent_0 3 rfl rfl)
theorem dX1_spent_4 : decode cX1_spent 4 = .ok (.iconst 0, 1) := dk_3 (dk_at dksX1_spent_0 4 rfl rfl)
theorem dX1_spent_5 : decode cX1_spent 5 = .ok (.iload_n 1, 1) := dk_27 (dk_at dksX1_spent_0 5 rfl rfl)
theorem dX1_spent_6 : decode cX1_spent 6 = .ok (.i2l, 1) := dk_133 (dk_at dksX1_spent_0 6 rfl rfl)
theorem dX1_spent_7 : decode cX1_spent 7 = .ok (.lconst 0, 1) := dk_9 (dk_at dksX1_spent_0 7 rfl rfl)
theorem dX1_spent_8 : decode cX1_spent 8 = .ok (.ldc2_w 330, 3) := dk_20 1 74 (dk_at dksX1_spent_0 8 rfl rfl)
theorem dX1_spent_11 : decode cX1_spent 11 = .ok (.invokestatic 84, 3) := dk_184 0 84 (dk_at dksX1_spent_0 11 rfl rfl)
theorem dX1_spent_14 : decode cX1_spent 14 = .ok (.bastore, 1) := dk_84 (dk_at dksX1_spent_0 14 rfl rfl)
theorem dX1_spent_15 : decode cX1_spent 15 = .ok (.invokestatic 168, 3) := dk_184 0 168 (dk_at dksX1_spent_0 15 rfl rfl)
theorem dX1_spent_18 : decode cX1_spent 18 = .ok (.aload_n 0, 1) := dk_42 (dk_at dksX1_spent_0 18 rfl rfl)
theorem dX1_spent_19 : decode cX1_spent 19 = .ok (.getfield 39, 3) := dk_180 0 39 (dk_at dksX1_spent_0 19 rfl rfl)
theorem dX1_spent_22 : decode cX1_spent 22 = .ok (.getfield 332, 3) := dk_180 1 76 (dk_at dksX1_spent_1 0 rfl rfl)
theorem dX1_spent_25 : decode cX1_spent 25 = .ok (.iload_n 1, 1) := dk_27 (dk_at dksX1_spent_1 3 rfl rfl)
theorem dX1_spent_26 : decode cX1_spent 26 = .ok (.laload, 1) := dk_47 (dk_at dksX1_spent_1 4 rfl rfl)
theorem dX1_spent_27 : decode cX1_spent 27 = .ok (.lreturn, 1) := dk_173 (dk_at dksX1_spent_1 5 rfl rfl)
abbrev cX1_allowance : ByteArray := prog_1_method_28_code
def yX1_allowance : MethodName := ⟨RX1, "allowance", "(I)J"⟩
def dkwX1_allowance_0 : List UInt8 := [42, 27, 182, 0, 134, 182, 0, 160, 173]
abbrev dktX1_allowance_0 : List UInt8 := dkwX1_allowance_0 ++ []
theorem dksX1_allowance_0 : cX1_allowance.data.toList.drop 0 = dktX1_allowance_0 := by decide +kernel
theorem dX1_allowance_0 : decode cX1_allowance 0 = .ok (.aload_n 0, 1) := dk_42 (dk_at dksX1_allowance_0 0 rfl rfl)
theorem dX1_allowance_1 : decode cX1_allowance 1 = .ok (.iload_n 1, 1) := dk_27 (dk_at dksX1_allowance_0 1 rfl rfl)
theorem dX1_allowance_2 : decode cX1_allowance 2 = .ok (.invokevirtual 134, 3) := dk_182 0 134 (dk_at dksX1_allowance_0 2 rfl rfl)
theorem dX1_allowance_5 : decode cX1_allowance 5 = .ok (.invokevirtual 160, 3) := dk_182 0 160 (dk_at dksX1_allowance_0 5 rfl rfl)
theorem dX1_allowance_8 : decode cX1_allowance 8 = .ok (.lreturn, 1) := dk_173 (dk_at dksX1_allowance_0 8 rfl rfl)
abbrev cX1_nationalShare : ByteArray := prog_1_method_65_code
def yX1_nationalShare : MethodName := ⟨RX1, "nationalShare", "(I)J"⟩
def dkwX1_nationalShare_0 : List UInt8 := [4, 188, 4, 89, 3, 42, 27, 182, 0, 88, 84, 184, 0, 92, 42, 180, 0, 39, 27, 182, 1, 82, 173]
abbrev dktX1_nationalShare_0 : List UInt8 := dkwX1_nationalShare_0 ++ []
theorem dksX1_nationalShare_0 : cX1_nationalShare.data.toList.drop 0 = dktX1_nationalShare_0 := by decide +kernel
theorem dX1_nationalShare_0 : decode cX1_nationalShare 0 = .ok (.iconst 1, 1) := dk_4 (dk_at dksX1_nationalShare_0 0 rfl rfl)
theorem dX1_nationalShare_1 : decode cX1_nationalShare 1 = .ok (.newarray .boolean, 2) := dk_188_4 (dk_at dksX1_nationalShare_0 1 rfl rfl)
theorem dX1_nationalShare_3 : decode cX1_nationalShare 3 = .ok (.dup, 1) := dk_89 (dk_at dksX1_nationalShare_0 3 rfl rfl)
theorem dX1_nationalShare_4 : decode cX1_nationalShare 4 = .ok (.iconst 0, 1) := dk_3 (dk_at dksX1_nationalShare_0 4 rfl rfl)
theorem dX1_nationalShare_5 : decode cX1_nationalShare 5 = .ok (.aload_n 0, 1) := dk_42 (dk_at dksX1_nationalShare_0 5 rfl rfl)
theorem dX1_nationalShare_6 : decode cX1_nationalShare 6 = .ok (.iload_n 1, 1) := dk_27 (dk_at dksX1_nationalShare_0 6 rfl rfl)
theorem dX1_nationalShare_7 : decode cX1_nationalShare 7 = .ok (.invokevirtual 88, 3) := dk_182 0 88 (dk_at dksX1_nationalShare_0 7 rfl rfl)
theorem dX1_nationalShare_10 : decode cX1_nationalShare 10 = .ok (.bastore, 1) := dk_84 (dk_at dksX1_nationalShare_0 10 rfl rfl)
theorem dX1_nationalShare_11 : decode cX1_nationalShare 11 = .ok (.invokestatic 92, 3) := dk_184 0 92 (dk_at dksX1_nationalShare_0 11 rfl rfl)
theorem dX1_nationalShare_14 : decode cX1_nationalShare 14 = .ok (.aload_n 0, 1) := dk_42 (dk_at dksX1_nationalShare_0 14 rfl rfl)
theorem dX1_nationalShare_15 : decode cX1_nationalShare 15 = .ok (.getfield 39, 3) := dk_180 0 39 (dk_at dksX1_nationalShare_0 15 rfl rfl)
theorem dX1_nationalShare_18 : decode cX1_nationalShare 18 = .ok (.iload_n 1, 1) := dk_27 (dk_at dksX1_nationalShare_0 18 rfl rfl)
theorem dX1_nationalShare_19 : decode cX1_nationalShare 19 = .ok (.invokevirtual 338, 3) := dk_182 1 82 (dk_at dksX1_nationalShare_0 19 rfl rfl)
theorem dX1_nationalShare_22 : decode cX1_nationalShare 22 = .ok (.lreturn, 1) := dk_173 (dk_at dksX1_nationalShare_0 22 rfl rfl)
abbrev cX1_requestTransfer : ByteArray := prog_1_method_66_code
def yX1_requestTransfer : MethodName := ⟨RX1, "requestTransfer", "(IIJ)Z"⟩
def dkwX1_requestTransfer_4 : List UInt8 := [182, 1, 97, 4, 172]
abbrev dktX1_requestTransfer_4 : List UInt8 := dkwX1_requestTransfer_4 ++ []
def dkwX1_requestTransfer_3 : List UInt8 := [180, 1, 94, 162, 0, 5, 3, 172, 25, 5, 180, 1, 87, 42, 180, 0, 39, 180, 0, 111, 28, 33]
abbrev dktX1_requestTransfer_3 : List UInt8 := dkwX1_requestTransfer_3 ++ dktX1_requestTransfer_4
def dkwX1_requestTransfer_2 : List UInt8 := [180, 1, 87, 182, 1, 91, 154, 0, 24, 25, 5, 180, 0, 153, 9, 148, 157, 0, 14, 28, 42, 180, 0, 30]
abbrev dktX1_requestTransfer_2 : List UInt8 := dkwX1_requestTransfer_2 ++ dktX1_requestTransfer_3
def dkwX1_requestTransfer_1 : List UInt8 := [33, 9, 20, 0, 109, 184, 0, 84, 84, 184, 0, 168, 25, 5, 182, 0, 208, 153, 0, 35, 25, 5]
abbrev dktX1_requestTransfer_1 : List UInt8 := dkwX1_requestTransfer_1 ++ dktX1_requestTransfer_2
def dkwX1_requestTransfer_0 : List UInt8 := [42, 27, 182, 0, 134, 58, 5, 5, 188, 4, 89, 3, 28, 133, 9, 20, 1, 85, 184, 0, 84, 84, 89, 4]
abbrev dktX1_requestTransfer_0 : List UInt8 := dkwX1_requestTransfer_0 ++ dktX1_requestTransfer_1
theorem dksX1_requestTransfer_0 : cX1_requestTransfer.data.toList.drop 0 = dktX1_requestTransfer_0 := by decide +kernel
theorem dksX1_requestTransfer_1 : cX1_requestTransfer.data.toList.drop 24 = dktX1_requestTransfer_1 := dk_seg dksX1_requestTransfer_0 24 rfl rfl
theorem dksX1_requestTransfer_2 : cX1_requestTransfer.data.toList.drop 46 = dktX1_requestTransfer_2 := dk_seg dksX1_requestTransfer_1 22 rfl rfl
theorem dksX1_requestTransfer_3 : cX1_requestTransfer.data.toList.drop 70 = dktX1_requestTransfer_3 := dk_seg dksX1_requestTransfer_2 24 rfl rfl
theorem dksX1_requestTransfer_4 : cX1_requestTransfer.data.toList.drop 92 = dktX1_requestTransfer_4 := dk_seg dksX1_requestTransfer_3 22 rfl rfl
theorem dX1_requestTransfer_0 : decode cX1_requestTransfer 0 = .ok (.aload_n 0, 1) := dk_42 (dk_at dksX1_requestTransfer_0 0 rfl rfl)
theorem dX1_requestTransfer_1 : decode cX1_requestTransfer 1 = .ok (.iload_n 1, 1) := dk_27 (dk_at dksX1_requestTransfer_0 1 rfl rfl)
theorem dX1_requestTransfer_2 : decode cX1_requestTransfer 2 = .ok (.invokevirtual 134, 3) := dk_182 0 134 (dk_at dksX1_requestTransfer_0 2 rfl rfl)
theorem dX1_requestTransfer_5 : decode cX1_requestTransfer 5 = .ok (.astore 5, 2) := dk_58 5 (dk_at dksX1_requestTransfer_0 5 rfl rfl)
theorem dX1_requestTransfer_7 : decode cX1_requestTransfer 7 = .ok (.iconst 2, 1) := dk_5 (dk_at dksX1_requestTransfer_0 7 rfl rfl)
theorem dX1_requestTransfer_8 : decode cX1_requestTransfer 8 = .ok (.newarray .boolean, 2) := dk_188_4 (dk_at dksX1_requestTransfer_0 8 rfl rfl)
theorem dX1_requestTransfer_10 : decode cX1_requestTransfer 10 = .ok (.dup, 1) := dk_89 (dk_at dksX1_requestTransfer_0 10 rfl rfl)
theorem dX1_requestTransfer_11 : decode cX1_requestTransfer 11 = .ok (.iconst 0, 1) := dk_3 (dk_at dksX1_requestTransfer_0 11 rfl rfl)
theorem dX1_requestTransfer_12 : decode cX1_requestTransfer 12 = .ok (.iload_n 2, 1) := dk_28 (dk_at dksX1_requestTransfer_0 12 rfl rfl)
theorem dX1_requestTransfer_13 : decode cX1_requestTransfer 13 = .ok (.i2l, 1) := dk_133 (dk_at dksX1_requestTransfer_0 13 rfl rfl)
theorem dX1_requestTransfer_14 : decode cX1_requestTransfer 14 = .ok (.lconst 0, 1) := dk_9 (dk_at dksX1_requestTransfer_0 14 rfl rfl)
theorem dX1_requestTransfer_15 : decode cX1_requestTransfer 15 = .ok (.ldc2_w 341, 3) := dk_20 1 85 (dk_at dksX1_requestTransfer_0 15 rfl rfl)
theorem dX1_requestTransfer_18 : decode cX1_requestTransfer 18 = .ok (.invokestatic 84, 3) := dk_184 0 84 (dk_at dksX1_requestTransfer_0 18 rfl rfl)
theorem dX1_requestTransfer_21 : decode cX1_requestTransfer 21 = .ok (.bastore, 1) := dk_84 (dk_at dksX1_requestTransfer_0 21 rfl rfl)
theorem dX1_requestTransfer_22 : decode cX1_requestTransfer 22 = .ok (.dup, 1) := dk_89 (dk_at dksX1_requestTransfer_0 22 rfl rfl)
theorem dX1_requestTransfer_23 : decode cX1_requestTransfer 23 = .ok (.iconst 1, 1) := dk_4 (dk_at dksX1_requestTransfer_0 23 rfl rfl)
theorem dX1_requestTransfer_24 : decode cX1_requestTransfer 24 = .ok (.lload_n 3, 1) := dk_33 (dk_at dksX1_requestTransfer_1 0 rfl rfl)
theorem dX1_requestTransfer_25 : decode cX1_requestTransfer 25 = .ok (.lconst 0, 1) := dk_9 (dk_at dksX1_requestTransfer_1 1 rfl rfl)
theorem dX1_requestTransfer_26 : decode cX1_requestTransfer 26 = .ok (.ldc2_w 109, 3) := dk_20 0 109 (dk_at dksX1_requestTransfer_1 2 rfl rfl)
theorem dX1_requestTransfer_29 : decode cX1_requestTransfer 29 = .ok (.invokestatic 84, 3) := dk_184 0 84 (dk_at dksX1_requestTransfer_1 5 rfl rfl)
theorem dX1_requestTransfer_32 : decode cX1_requestTransfer 32 = .ok (.bastore, 1) := dk_84 (dk_at dksX1_requestTransfer_1 8 rfl rfl)
theorem dX1_requestTransfer_33 : decode cX1_requestTransfer 33 = .ok (.invokestatic 168, 3) := dk_184 0 168 (dk_at dksX1_requestTransfer_1 9 rfl rfl)
theorem dX1_requestTransfer_36 : decode cX1_requestTransfer 36 = .ok (.aload 5, 2) := dk_25 5 (dk_at dksX1_requestTransfer_1 12 rfl rfl)
theorem dX1_requestTransfer_38 : decode cX1_requestTransfer 38 = .ok (.invokevirtual 208, 3) := dk_182 0 208 (dk_at dksX1_requestTransfer_1 14 rfl rfl)
theorem dX1_requestTransfer_41 : decode cX1_requestTransfer 41 = .ok (.ifCond .eq 35, 3) := dk_153 0 35 (dk_at dksX1_requestTransfer_1 17 rfl rfl)
theorem dX1_requestTransfer_44 : decode cX1_requestTransfer 44 = .ok (.aload 5, 2) := dk_25 5 (dk_at dksX1_requestTransfer_1 20 rfl rfl)
theorem dX1_requestTransfer_46 : decode cX1_requestTransfer 46 = .ok (.getfield 343, 3) := dk_180 1 87 (dk_at dksX1_requestTransfer_2 0 rfl rfl)
theorem dX1_requestTransfer_49 : decode cX1_requestTransfer 49 = .ok (.invokevirtual 347, 3) := dk_182 1 91 (dk_at dksX1_requestTransfer_2 3 rfl rfl)
theorem dX1_requestTransfer_52 : decode cX1_requestTransfer 52 = .ok (.ifCond .ne 24, 3) := dk_154 0 24 (dk_at dksX1_requestTransfer_2 6 rfl rfl)
theorem dX1_requestTransfer_55 : decode cX1_requestTransfer 55 = .ok (.aload 5, 2) := dk_25 5 (dk_at dksX1_requestTransfer_2 9 rfl rfl)
theorem dX1_requestTransfer_57 : decode cX1_requestTransfer 57 = .ok (.getfield 153, 3) := dk_180 0 153 (dk_at dksX1_requestTransfer_2 11 rfl rfl)
theorem dX1_requestTransfer_60 : decode cX1_requestTransfer 60 = .ok (.lconst 0, 1) := dk_9 (dk_at dksX1_requestTransfer_2 14 rfl rfl)
theorem dX1_requestTransfer_61 : decode cX1_requestTransfer 61 = .ok (.lcmp, 1) := dk_148 (dk_at dksX1_requestTransfer_2 15 rfl rfl)
theorem dX1_requestTransfer_62 : decode cX1_requestTransfer 62 = .ok (.ifCond .gt 14, 3) := dk_157 0 14 (dk_at dksX1_requestTransfer_2 16 rfl rfl)
theorem dX1_requestTransfer_65 : decode cX1_requestTransfer 65 = .ok (.iload_n 2, 1) := dk_28 (dk_at dksX1_requestTransfer_2 19 rfl rfl)
theorem dX1_requestTransfer_66 : decode cX1_requestTransfer 66 = .ok (.aload_n 0, 1) := dk_42 (dk_at dksX1_requestTransfer_2 20 rfl rfl)
theorem dX1_requestTransfer_67 : decode cX1_requestTransfer 67 = .ok (.getfield 30, 3) := dk_180 0 30 (dk_at dksX1_requestTransfer_2 21 rfl rfl)
theorem dX1_requestTransfer_70 : decode cX1_requestTransfer 70 = .ok (.getfield 350, 3) := dk_180 1 94 (dk_at dksX1_requestTransfer_3 0 rfl rfl)
theorem dX1_requestTransfer_73 : decode cX1_requestTransfer 73 = .ok (.if_icmp .ge 5, 3) := dk_162 0 5 (dk_at dksX1_requestTransfer_3 3 rfl rfl)
theorem dX1_requestTransfer_76 : decode cX1_requestTransfer 76 = .ok (.iconst 0, 1) := dk_3 (dk_at dksX1_requestTransfer_3 6 rfl rfl)
theorem dX1_requestTransfer_77 : decode cX1_requestTransfer 77 = .ok (.ireturn, 1) := dk_172 (dk_at dksX1_requestTransfer_3 7 rfl rfl)
theorem dX1_requestTransfer_78 : decode cX1_requestTransfer 78 = .ok (.aload 5, 2) := dk_25 5 (dk_at dksX1_requestTransfer_3 8 rfl rfl)
theorem dX1_requestTransfer_80 : decode cX1_requestTransfer 80 = .ok (.getfield 343, 3) := dk_180 1 87 (dk_at dksX1_requestTransfer_3 10 rfl rfl)
theorem dX1_requestTransfer_83 : decode cX1_requestTransfer 83 = .ok (.aload_n 0, 1) := dk_42 (dk_at dksX1_requestTransfer_3 13 rfl rfl)
theorem dX1_requestTransfer_84 : decode cX1_requestTransfer 84 = .ok (.getfield 39, 3) := dk_180 0 39 (dk_at dksX1_requestTransfer_3 14 rfl rfl)
theorem dX1_requestTransfer_87 : decode cX1_requestTransfer 87 = .ok (.getfield 111, 3) := dk_180 0 111 (dk_at dksX1_requestTransfer_3 17 rfl rfl)
theorem dX1_requestTransfer_90 : decode cX1_requestTransfer 90 = .ok (.iload_n 2, 1) := dk_28 (dk_at dksX1_requestTransfer_3 20 rfl rfl)
theorem dX1_requestTransfer_91 : decode cX1_requestTransfer 91 = .ok (.lload_n 3, 1) := dk_33 (dk_at dksX1_requestTransfer_3 21 rfl rfl)
theorem dX1_requestTransfer_92 : decode cX1_requestTransfer 92 = .ok (.invokevirtual 353, 3) := dk_182 1 97 (dk_at dksX1_requestTransfer_4 0 rfl rfl)
theorem dX1_requestTransfer_95 : decode cX1_requestTransfer 95 = .ok (.iconst 1, 1) := dk_4 (dk_at dksX1_requestTransfer_4 3 rfl rfl)
theorem dX1_requestTransfer_96 : decode cX1_requestTransfer 96 = .ok (.ireturn, 1) := dk_172 (dk_at dksX1_requestTransfer_4 4 rfl rfl)
abbrev cX1_exercise : ByteArray := prog_1_method_68_code
def yX1_exercise : MethodName := ⟨RX1, "exercise", "(I)Z"⟩
def dkwX1_exercise_3 : List UInt8 := [4, 172]
abbrev dktX1_exercise_3 : List UInt8 := dkwX1_exercise_3 ++ []
def dkwX1_exercise_2 : List UInt8 := [181, 1, 103, 44, 5, 181, 0, 141, 44, 89, 180, 0, 153, 44, 180, 1, 87, 180, 1, 117, 101, 181, 0, 153]
abbrev dktX1_exercise_2 : List UInt8 := dkwX1_exercise_2 ++ dktX1_exercise_3
def dkwX1_exercise_1 : List UInt8 := [180, 1, 87, 180, 1, 113, 100, 42, 180, 0, 30, 180, 1, 114, 161, 0, 5, 3, 172, 44, 180, 1, 87, 8]
abbrev dktX1_exercise_1 : List UInt8 := dkwX1_exercise_1 ++ dktX1_exercise_2
def dkwX1_exercise_0 : List UInt8 := [42, 27, 182, 0, 134, 77, 44, 180, 1, 87, 182, 1, 91, 153, 0, 28, 42, 180, 0, 39, 180, 0, 111, 44]
abbrev dktX1_exercise_0 : List UInt8 := dkwX1_exercise_0 ++ dktX1_exercise_1
theorem dksX1_exercise_0 : cX1_exercise.data.toList.drop 0 = dktX1_exercise_0 := by decide +kernel
theorem dksX1_exercise_1 : cX1_exercise.data.toList.drop 24 = dktX1_exercise_1 := dk_seg dksX1_exercise_0 24 rfl rfl
theorem dksX1_exercise_2 : cX1_exercise.data.toList.drop 48 = dktX1_exercise_2 := dk_seg dksX1_exercise_1 24 rfl rfl
theorem dksX1_exercise_3 : cX1_exercise.data.toList.drop 72 = dktX1_exercise_3 := dk_seg dksX1_exercise_2 24 rfl rfl
theorem dX1_exercise_0 : decode cX1_exercise 0 = .ok (.aload_n 0, 1) := dk_42 (dk_at dksX1_exercise_0 0 rfl rfl)
theorem dX1_exercise_1 : decode cX1_exercise 1 = .ok (.iload_n 1, 1) := dk_27 (dk_at dksX1_exercise_0 1 rfl rfl)
theorem dX1_exercise_2 : decode cX1_exercise 2 = .ok (.invokevirtual 134, 3) := dk_182 0 134 (dk_at dksX1_exercise_0 2 rfl rfl)
theorem dX1_exercise_5 : decode cX1_exercise 5 = .ok (.astore_n 2, 1) := dk_77 (dk_at dksX1_exercise_0 5 rfl rfl)
theorem dX1_exercise_6 : decode cX1_exercise 6 = .ok (.aload_n 2, 1) := dk_44 (dk_at dksX1_exercise_0 6 rfl rfl)
theorem dX1_exercise_7 : decode cX1_exercise 7 = .ok (.getfield 343, 3) := dk_180 1 87 (dk_at dksX1_exercise_0 7 rfl rfl)
theorem dX1_exercise_10 : decode cX1_exercise 10 = .ok (.invokevirtual 347, 3) := dk_182 1 91 (dk_at dksX1_exercise_0 10 rfl rfl)
theorem dX1_exercise_13 : decode cX1_exercise 13 = .ok (.ifCond .eq 28, 3) := dk_153 0 28 (dk_at dksX1_exercise_0 13 rfl rfl)
theorem dX1_exercise_16 : decode cX1_exercise 16 = .ok (.aload_n 0, 1) := dk_42 (dk_at dksX1_exercise_0 16 rfl rfl)
theorem dX1_exercise_17 : decode cX1_exercise 17 = .ok (.getfield 39, 3) := dk_180 0 39 (dk_at dksX1_exercise_0 17 rfl rfl)
theorem dX1_exercise_20 : decode cX1_exercise 20 = .ok (.getfield 111, 3) := dk_180 0 111 (dk_at dksX1_exercise_0 20 rfl rfl)
theorem dX1_exercise_23 : decode cX1_exercise 23 = .ok (.aload_n 2, 1) := dk_44 (dk_at dksX1_exercise_0 23 rfl rfl)
theorem dX1_exercise_24 : decode cX1_exercise 24 = .ok (.getfield 343, 3) := dk_180 1 87 (dk_at dksX1_exercise_1 0 rfl rfl)
theorem dX1_exercise_27 : decode cX1_exercise 27 = .ok (.getfield 369, 3) := dk_180 1 113 (dk_at dksX1_exercise_1 3 rfl rfl)
theorem dX1_exercise_30 : decode cX1_exercise 30 = .ok (.isub, 1) := dk_100 (dk_at dksX1_exercise_1 6 rfl rfl)
theorem dX1_exercise_31 : decode cX1_exercise 31 = .ok (.aload_n 0, 1) := dk_42 (dk_at dksX1_exercise_1 7 rfl rfl)
theorem dX1_exercise_32 : decode cX1_exercise 32 = .ok (.getfield 30, 3) := dk_180 0 30 (dk_at dksX1_exercise_1 8 rfl rfl)
theorem dX1_exercise_35 : decode cX1_exercise 35 = .ok (.getfield 370, 3) := dk_180 1 114 (dk_at dksX1_exercise_1 11 rfl rfl)
theorem dX1_exercise_38 : decode cX1_exercise 38 = .ok (.if_icmp .lt 5, 3) := dk_161 0 5 (dk_at dksX1_exercise_1 14 rfl rfl)
theorem dX1_exercise_41 : decode cX1_exercise 41 = .ok (.iconst 0, 1) := dk_3 (dk_at dksX1_exercise_1 17 rfl rfl)
theorem dX1_exercise_42 : decode cX1_exercise 42 = .ok (.ireturn, 1) := dk_172 (dk_at dksX1_exercise_1 18 rfl rfl)
theorem dX1_exercise_43 : decode cX1_exercise 43 = .ok (.aload_n 2, 1) := dk_44 (dk_at dksX1_exercise_1 19 rfl rfl)
theorem dX1_exercise_44 : decode cX1_exercise 44 = .ok (.getfield 343, 3) := dk_180 1 87 (dk_at dksX1_exercise_1 20 rfl rfl)
theorem dX1_exercise_47 : decode cX1_exercise 47 = .ok (.iconst 5, 1) := dk_8 (dk_at dksX1_exercise_1 23 rfl rfl)
theorem dX1_exercise_48 : decode cX1_exercise 48 = .ok (.putfield 359, 3) := dk_181 1 103 (dk_at dksX1_exercise_2 0 rfl rfl)
theorem dX1_exercise_51 : decode cX1_exercise 51 = .ok (.aload_n 2, 1) := dk_44 (dk_at dksX1_exercise_2 3 rfl rfl)
theorem dX1_exercise_52 : decode cX1_exercise 52 = .ok (.iconst 2, 1) := dk_5 (dk_at dksX1_exercise_2 4 rfl rfl)
theorem dX1_exercise_53 : decode cX1_exercise 53 = .ok (.putfield 141, 3) := dk_181 0 141 (dk_at dksX1_exercise_2 5 rfl rfl)
theorem dX1_exercise_56 : decode cX1_exercise 56 = .ok (.aload_n 2, 1) := dk_44 (dk_at dksX1_exercise_2 8 rfl rfl)
theorem dX1_exercise_57 : decode cX1_exercise 57 = .ok (.dup, 1) := dk_89 (dk_at dksX1_exercise_2 9 rfl rfl)
theorem dX1_exercise_58 : decode cX1_exercise 58 = .ok (.getfield 153, 3) := dk_180 0 153 (dk_at dksX1_exercise_2 10 rfl rfl)
theorem dX1_exercise_61 : decode cX1_exercise 61 = .ok (.aload_n 2, 1) := dk_44 (dk_at dksX1_exercise_2 13 rfl rfl)
theorem dX1_exercise_62 : decode cX1_exercise 62 = .ok (.getfield 343, 3) := dk_180 1 87 (dk_at dksX1_exercise_2 14 rfl rfl)
theorem dX1_exercise_65 : decode cX1_exercise 65 = .ok (.getfield 373, 3) := dk_180 1 117 (dk_at dksX1_exercise_2 17 rfl rfl)
theorem dX1_exercise_68 : decode cX1_exercise 68 = .ok (.lsub, 1) := dk_101 (dk_at dksX1_exercise_2 20 rfl rfl)
theorem dX1_exercise_69 : decode cX1_exercise 69 = .ok (.putfield 153, 3) := dk_181 0 153 (dk_at dksX1_exercise_2 21 rfl rfl)
theorem dX1_exercise_72 : decode cX1_exercise 72 = .ok (.iconst 1, 1) := dk_4 (dk_at dksX1_exercise_3 0 rfl rfl)
theorem dX1_exercise_73 : decode cX1_exercise 73 = .ok (.ireturn, 1) := dk_172 (dk_at dksX1_exercise_3 1 rfl rfl)
abbrev cX1_withdraw : ByteArray := prog_1_method_69_code
def yX1_withdraw : MethodName := ⟨RX1, "withdraw", "(I)Z"⟩
def dkwX1_withdraw_1 : List UInt8 := [181, 1, 103, 4, 172]
abbrev dktX1_withdraw_1 : List UInt8 := dkwX1_withdraw_1 ++ []
def dkwX1_withdraw_0 : List UInt8 := [42, 27, 182, 0, 134, 77, 44, 180, 1, 87, 182, 1, 91, 154, 0, 5, 3, 172, 44, 180, 1, 87, 3]
abbrev dktX1_withdraw_0 : List UInt8 := dkwX1_withdraw_0 ++ dktX1_withdraw_1
theorem dksX1_withdraw_0 : cX1_withdraw.data.toList.drop 0 = dktX1_withdraw_0 := by decide +kernel
theorem dksX1_withdraw_1 : cX1_withdraw.data.toList.drop 23 = dktX1_withdraw_1 := dk_seg dksX1_withdraw_0 23 rfl rfl
theorem dX1_withdraw_0 : decode cX1_withdraw 0 = .ok (.aload_n 0, 1) := dk_42 (dk_at dksX1_withdraw_0 0 rfl rfl)
theorem dX1_withdraw_1 : decode cX1_withdraw 1 = .ok (.iload_n 1, 1) := dk_27 (dk_at dksX1_withdraw_0 1 rfl rfl)
theorem dX1_withdraw_2 : decode cX1_withdraw 2 = .ok (.invokevirtual 134, 3) := dk_182 0 134 (dk_at dksX1_withdraw_0 2 rfl rfl)
theorem dX1_withdraw_5 : decode cX1_withdraw 5 = .ok (.astore_n 2, 1) := dk_77 (dk_at dksX1_withdraw_0 5 rfl rfl)
theorem dX1_withdraw_6 : decode cX1_withdraw 6 = .ok (.aload_n 2, 1) := dk_44 (dk_at dksX1_withdraw_0 6 rfl rfl)
theorem dX1_withdraw_7 : decode cX1_withdraw 7 = .ok (.getfield 343, 3) := dk_180 1 87 (dk_at dksX1_withdraw_0 7 rfl rfl)
theorem dX1_withdraw_10 : decode cX1_withdraw 10 = .ok (.invokevirtual 347, 3) := dk_182 1 91 (dk_at dksX1_withdraw_0 10 rfl rfl)
theorem dX1_withdraw_13 : decode cX1_withdraw 13 = .ok (.ifCond .ne 5, 3) := dk_154 0 5 (dk_at dksX1_withdraw_0 13 rfl rfl)
theorem dX1_withdraw_16 : decode cX1_withdraw 16 = .ok (.iconst 0, 1) := dk_3 (dk_at dksX1_withdraw_0 16 rfl rfl)
theorem dX1_withdraw_17 : decode cX1_withdraw 17 = .ok (.ireturn, 1) := dk_172 (dk_at dksX1_withdraw_0 17 rfl rfl)
theorem dX1_withdraw_18 : decode cX1_withdraw 18 = .ok (.aload_n 2, 1) := dk_44 (dk_at dksX1_withdraw_0 18 rfl rfl)
theorem dX1_withdraw_19 : decode cX1_withdraw 19 = .ok (.getfield 343, 3) := dk_180 1 87 (dk_at dksX1_withdraw_0 19 rfl rfl)
theorem dX1_withdraw_22 : decode cX1_withdraw 22 = .ok (.iconst 0, 1) := dk_3 (dk_at dksX1_withdraw_0 22 rfl rfl)
theorem dX1_withdraw_23 : decode cX1_withdraw 23 = .ok (.putfield 359, 3) := dk_181 1 103 (dk_at dksX1_withdraw_1 0 rfl rfl)
theorem dX1_withdraw_26 : decode cX1_withdraw 26 = .ok (.iconst 1, 1) := dk_4 (dk_at dksX1_withdraw_1 3 rfl rfl)
theorem dX1_withdraw_27 : decode cX1_withdraw 27 = .ok (.ireturn, 1) := dk_172 (dk_at dksX1_withdraw_1 4 rfl rfl)
abbrev cX1_transferState : ByteArray := prog_1_method_70_code
def yX1_transferState : MethodName := ⟨RX1, "transferState", "(I)I"⟩
def dkwX1_transferState_0 : List UInt8 := [42, 27, 182, 0, 134, 180, 1, 87, 180, 1, 103, 172]
abbrev dktX1_transferState_0 : List UInt8 := dkwX1_transferState_0 ++ []
theorem dksX1_transferState_0 : cX1_transferState.data.toList.drop 0 = dktX1_transferState_0 := by decide +kernel
theorem dX1_transferState_0 : decode cX1_transferState 0 = .ok (.aload_n 0, 1) := dk_42 (dk_at dksX1_transferState_0 0 rfl rfl)
theorem dX1_transferState_1 : decode cX1_transferState 1 = .ok (.iload_n 1, 1) := dk_27 (dk_at dksX1_transferState_0 1 rfl rfl)
theorem dX1_transferState_2 : decode cX1_transferState 2 = .ok (.invokevirtual 134, 3) := dk_182 0 134 (dk_at dksX1_transferState_0 2 rfl rfl)
theorem dX1_transferState_5 : decode cX1_transferState 5 = .ok (.getfield 343, 3) := dk_180 1 87 (dk_at dksX1_transferState_0 5 rfl rfl)
theorem dX1_transferState_8 : decode cX1_transferState 8 = .ok (.getfield 359, 3) := dk_180 1 103 (dk_at dksX1_transferState_0 8 rfl rfl)
theorem dX1_transferState_11 : decode cX1_transferState 11 = .ok (.ireturn, 1) := dk_172 (dk_at dksX1_transferState_0 11 rfl rfl)
abbrev cX1_transferWait : ByteArray := prog_1_method_71_code
def yX1_transferWait : MethodName := ⟨RX1, "transferWait", "(I)I"⟩
def dkwX1_transferWait_1 : List UInt8 := [42, 180, 0, 39, 180, 0, 111, 44, 180, 1, 113, 100, 100, 184, 1, 120, 167, 0, 4, 2, 172]
abbrev dktX1_transferWait_1 : List UInt8 := dkwX1_transferWait_1 ++ []
def dkwX1_transferWait_0 : List UInt8 := [42, 27, 182, 0, 134, 180, 1, 87, 77, 44, 182, 1, 91, 153, 0, 30, 3, 42, 180, 0, 30, 180, 1, 114]
abbrev dktX1_transferWait_0 : List UInt8 := dkwX1_transferWait_0 ++ dktX1_transferWait_1
theorem dksX1_transferWait_0 : cX1_transferWait.data.toList.drop 0 = dktX1_transferWait_0 := by decide +kernel
theorem dksX1_transferWait_1 : cX1_transferWait.data.toList.drop 24 = dktX1_transferWait_1 := dk_seg dksX1_transferWait_0 24 rfl rfl
theorem dX1_transferWait_0 : decode cX1_transferWait 0 = .ok (.aload_n 0, 1) := dk_42 (dk_at dksX1_transferWait_0 0 rfl rfl)
theorem dX1_transferWait_1 : decode cX1_transferWait 1 = .ok (.iload_n 1, 1) := dk_27 (dk_at dksX1_transferWait_0 1 rfl rfl)
theorem dX1_transferWait_2 : decode cX1_transferWait 2 = .ok (.invokevirtual 134, 3) := dk_182 0 134 (dk_at dksX1_transferWait_0 2 rfl rfl)
theorem dX1_transferWait_5 : decode cX1_transferWait 5 = .ok (.getfield 343, 3) := dk_180 1 87 (dk_at dksX1_transferWait_0 5 rfl rfl)
theorem dX1_transferWait_8 : decode cX1_transferWait 8 = .ok (.astore_n 2, 1) := dk_77 (dk_at dksX1_transferWait_0 8 rfl rfl)
theorem dX1_transferWait_9 : decode cX1_transferWait 9 = .ok (.aload_n 2, 1) := dk_44 (dk_at dksX1_transferWait_0 9 rfl rfl)
theorem dX1_transferWait_10 : decode cX1_transferWait 10 = .ok (.invokevirtual 347, 3) := dk_182 1 91 (dk_at dksX1_transferWait_0 10 rfl rfl)
theorem dX1_transferWait_13 : decode cX1_transferWait 13 = .ok (.ifCond .eq 30, 3) := dk_153 0 30 (dk_at dksX1_transferWait_0 13 rfl rfl)
theorem dX1_transferWait_16 : decode cX1_transferWait 16 = .ok (.iconst 0, 1) := dk_3 (dk_at dksX1_transferWait_0 16 rfl rfl)
theorem dX1_transferWait_17 : decode cX1_transferWait 17 = .ok (.aload_n 0, 1) := dk_42 (dk_at dksX1_transferWait_0 17 rfl rfl)
theorem dX1_transferWait_18 : decode cX1_transferWait 18 = .ok (.getfield 30, 3) := dk_180 0 30 (dk_at dksX1_transferWait_0 18 rfl rfl)
theorem dX1_transferWait_21 : decode cX1_transferWait 21 = .ok (.getfield 370, 3) := dk_180 1 114 (dk_at dksX1_transferWait_0 21 rfl rfl)
theorem dX1_transferWait_24 : decode cX1_transferWait 24 = .ok (.aload_n 0, 1) := dk_42 (dk_at dksX1_transferWait_1 0 rfl rfl)
theorem dX1_transferWait_25 : decode cX1_transferWait 25 = .ok (.getfield 39, 3) := dk_180 0 39 (dk_at dksX1_transferWait_1 1 rfl rfl)
theorem dX1_transferWait_28 : decode cX1_transferWait 28 = .ok (.getfield 111, 3) := dk_180 0 111 (dk_at dksX1_transferWait_1 4 rfl rfl)
theorem dX1_transferWait_31 : decode cX1_transferWait 31 = .ok (.aload_n 2, 1) := dk_44 (dk_at dksX1_transferWait_1 7 rfl rfl)
theorem dX1_transferWait_32 : decode cX1_transferWait 32 = .ok (.getfield 369, 3) := dk_180 1 113 (dk_at dksX1_transferWait_1 8 rfl rfl)
theorem dX1_transferWait_35 : decode cX1_transferWait 35 = .ok (.isub, 1) := dk_100 (dk_at dksX1_transferWait_1 11 rfl rfl)
theorem dX1_transferWait_36 : decode cX1_transferWait 36 = .ok (.isub, 1) := dk_100 (dk_at dksX1_transferWait_1 12 rfl rfl)
theorem dX1_transferWait_37 : decode cX1_transferWait 37 = .ok (.invokestatic 376, 3) := dk_184 1 120 (dk_at dksX1_transferWait_1 13 rfl rfl)
theorem dX1_transferWait_40 : decode cX1_transferWait 40 = .ok (.goto 4, 3) := dk_167 0 4 (dk_at dksX1_transferWait_1 16 rfl rfl)
theorem dX1_transferWait_43 : decode cX1_transferWait 43 = .ok (.iconst (-1), 1) := dk_2 (dk_at dksX1_transferWait_1 19 rfl rfl)
theorem dX1_transferWait_44 : decode cX1_transferWait 44 = .ok (.ireturn, 1) := dk_172 (dk_at dksX1_transferWait_1 20 rfl rfl)
abbrev cX1_generation : ByteArray := prog_1_method_23_code
def yX1_generation : MethodName := ⟨RX1, "generation", "(I)I"⟩
def dkwX1_generation_0 : List UInt8 := [42, 27, 182, 0, 134, 180, 0, 144, 172]
abbrev dktX1_generation_0 : List UInt8 := dkwX1_generation_0 ++ []
theorem dksX1_generation_0 : cX1_generation.data.toList.drop 0 = dktX1_generation_0 := by decide +kernel
theorem dX1_generation_0 : decode cX1_generation 0 = .ok (.aload_n 0, 1) := dk_42 (dk_at dksX1_generation_0 0 rfl rfl)
theorem dX1_generation_1 : decode cX1_generation 1 = .ok (.iload_n 1, 1) := dk_27 (dk_at dksX1_generation_0 1 rfl rfl)
theorem dX1_generation_2 : decode cX1_generation 2 = .ok (.invokevirtual 134, 3) := dk_182 0 134 (dk_at dksX1_generation_0 2 rfl rfl)
theorem dX1_generation_5 : decode cX1_generation 5 = .ok (.getfield 144, 3) := dk_180 0 144 (dk_at dksX1_generation_0 5 rfl rfl)
theorem dX1_generation_8 : decode cX1_generation 8 = .ok (.ireturn, 1) := dk_172 (dk_at dksX1_generation_0 8 rfl rfl)
abbrev cX1_worth : ByteArray := prog_1_method_24_code
def yX1_worth : MethodName := ⟨RX1, "worth", "(I)I"⟩
def dkwX1_worth_0 : List UInt8 := [42, 27, 182, 0, 134, 180, 0, 147, 172]
abbrev dktX1_worth_0 : List UInt8 := dkwX1_worth_0 ++ []
theorem dksX1_worth_0 : cX1_worth.data.toList.drop 0 = dktX1_worth_0 := by decide +kernel
theorem dX1_worth_0 : decode cX1_worth 0 = .ok (.aload_n 0, 1) := dk_42 (dk_at dksX1_worth_0 0 rfl rfl)
theorem dX1_worth_1 : decode cX1_worth 1 = .ok (.iload_n 1, 1) := dk_27 (dk_at dksX1_worth_0 1 rfl rfl)
theorem dX1_worth_2 : decode cX1_worth 2 = .ok (.invokevirtual 134, 3) := dk_182 0 134 (dk_at dksX1_worth_0 2 rfl rfl)
theorem dX1_worth_5 : decode cX1_worth 5 = .ok (.getfield 147, 3) := dk_180 0 147 (dk_at dksX1_worth_0 5 rfl rfl)
theorem dX1_worth_8 : decode cX1_worth 8 = .ok (.ireturn, 1) := dk_172 (dk_at dksX1_worth_0 8 rfl rfl)
abbrev cX1_formatInvoice : ByteArray := prog_1_method_79_code
def yX1_formatInvoice : MethodName := ⟨RX1, "formatInvoice", "(II)I"⟩
def dkwX1_formatInvoice_2 : List UInt8 := [28, 50, 21, 4, 47, 182, 1, 223, 132, 4, 1, 167, 255, 228, 42, 180, 0, 63, 182, 1, 186, 172]
abbrev dktX1_formatInvoice_2 : List UInt8 := dkwX1_formatInvoice_2 ++ []
def dkwX1_formatInvoice_1 : List UInt8 := [3, 182, 1, 216, 3, 54, 4, 21, 4, 16, 7, 162, 0, 27, 42, 21, 4, 184, 1, 219, 45, 180, 1, 42]
abbrev dktX1_formatInvoice_1 : List UInt8 := dkwX1_formatInvoice_1 ++ dktX1_formatInvoice_2
def dkwX1_formatInvoice_0 : List UInt8 := [42, 27, 182, 0, 134, 78, 4, 188, 4, 89, 3, 42, 28, 182, 1, 24, 84, 184, 0, 168, 42, 180, 0, 63]
abbrev dktX1_formatInvoice_0 : List UInt8 := dkwX1_formatInvoice_0 ++ dktX1_formatInvoice_1
theorem dksX1_formatInvoice_0 : cX1_formatInvoice.data.toList.drop 0 = dktX1_formatInvoice_0 := by decide +kernel
theorem dksX1_formatInvoice_1 : cX1_formatInvoice.data.toList.drop 24 = dktX1_formatInvoice_1 := dk_seg dksX1_formatInvoice_0 24 rfl rfl
theorem dksX1_formatInvoice_2 : cX1_formatInvoice.data.toList.drop 48 = dktX1_formatInvoice_2 := dk_seg dksX1_formatInvoice_1 24 rfl rfl
theorem dX1_formatInvoice_0 : decode cX1_formatInvoice 0 = .ok (.aload_n 0, 1) := dk_42 (dk_at dksX1_formatInvoice_0 0 rfl rfl)
theorem dX1_formatInvoice_1 : decode cX1_formatInvoice 1 = .ok (.iload_n 1, 1) := dk_27 (dk_at dksX1_formatInvoice_0 1 rfl rfl)
theorem dX1_formatInvoice_2 : decode cX1_formatInvoice 2 = .ok (.invokevirtual 134, 3) := dk_182 0 134 (dk_at dksX1_formatInvoice_0 2 rfl rfl)
theorem dX1_formatInvoice_5 : decode cX1_formatInvoice 5 = .ok (.astore_n 3, 1) := dk_78 (dk_at dksX1_formatInvoice_0 5 rfl rfl)
theorem dX1_formatInvoice_6 : decode cX1_formatInvoice 6 = .ok (.iconst 1, 1) := dk_4 (dk_at dksX1_formatInvoice_0 6 rfl rfl)
theorem dX1_formatInvoice_7 : decode cX1_formatInvoice 7 = .ok (.newarray .boolean, 2) := dk_188_4 (dk_at dksX1_formatInvoice_0 7 rfl rfl)
theorem dX1_formatInvoice_9 : decode cX1_formatInvoice 9 = .ok (.dup, 1) := dk_89 (dk_at dksX1_formatInvoice_0 9 rfl rfl)
theorem dX1_formatInvoice_10 : decode cX1_formatInvoice 10 = .ok (.iconst 0, 1) := dk_3 (dk_at dksX1_formatInvoice_0 10 rfl rfl)
theorem dX1_formatInvoice_11 : decode cX1_formatInvoice 11 = .ok (.aload_n 0, 1) := dk_42 (dk_at dksX1_formatInvoice_0 11 rfl rfl)
theorem dX1_formatInvoice_12 : decode cX1_formatInvoice 12 = .ok (.iload_n 2, 1) := dk_28 (dk_at dksX1_formatInvoice_0 12 rfl rfl)
theorem dX1_formatInvoice_13 : decode cX1_formatInvoice 13 = .ok (.invokevirtual 280, 3) := dk_182 1 24 (dk_at dksX1_formatInvoice_0 13 rfl rfl)
theorem dX1_formatInvoice_16 : decode cX1_formatInvoice 16 = .ok (.bastore, 1) := dk_84 (dk_at dksX1_formatInvoice_0 16 rfl rfl)
theorem dX1_formatInvoice_17 : decode cX1_formatInvoice 17 = .ok (.invokestatic 168, 3) := dk_184 0 168 (dk_at dksX1_formatInvoice_0 17 rfl rfl)
theorem dX1_formatInvoice_20 : decode cX1_formatInvoice 20 = .ok (.aload_n 0, 1) := dk_42 (dk_at dksX1_formatInvoice_0 20 rfl rfl)
theorem dX1_formatInvoice_21 : decode cX1_formatInvoice 21 = .ok (.getfield 63, 3) := dk_180 0 63 (dk_at dksX1_formatInvoice_0 21 rfl rfl)
theorem dX1_formatInvoice_24 : decode cX1_formatInvoice 24 = .ok (.iconst 0, 1) := dk_3 (dk_at dksX1_formatInvoice_1 0 rfl rfl)
theorem dX1_formatInvoice_25 : decode cX1_formatInvoice 25 = .ok (.invokevirtual 472, 3) := dk_182 1 216 (dk_at dksX1_formatInvoice_1 1 rfl rfl)
theorem dX1_formatInvoice_28 : decode cX1_formatInvoice 28 = .ok (.iconst 0, 1) := dk_3 (dk_at dksX1_formatInvoice_1 4 rfl rfl)
theorem dX1_formatInvoice_29 : decode cX1_formatInvoice 29 = .ok (.istore 4, 2) := dk_54 4 (dk_at dksX1_formatInvoice_1 5 rfl rfl)
theorem dX1_formatInvoice_31 : decode cX1_formatInvoice 31 = .ok (.iload 4, 2) := dk_21 4 (dk_at dksX1_formatInvoice_1 7 rfl rfl)
theorem dX1_formatInvoice_33 : decode cX1_formatInvoice 33 = .ok (.bipush 7, 2) := dk_16 7 (dk_at dksX1_formatInvoice_1 9 rfl rfl)
theorem dX1_formatInvoice_35 : decode cX1_formatInvoice 35 = .ok (.if_icmp .ge 27, 3) := dk_162 0 27 (dk_at dksX1_formatInvoice_1 11 rfl rfl)
theorem dX1_formatInvoice_38 : decode cX1_formatInvoice 38 = .ok (.aload_n 0, 1) := dk_42 (dk_at dksX1_formatInvoice_1 14 rfl rfl)
theorem dX1_formatInvoice_39 : decode cX1_formatInvoice 39 = .ok (.iload 4, 2) := dk_21 4 (dk_at dksX1_formatInvoice_1 15 rfl rfl)
theorem dX1_formatInvoice_41 : decode cX1_formatInvoice 41 = .ok (.invokestatic 475, 3) := dk_184 1 219 (dk_at dksX1_formatInvoice_1 17 rfl rfl)
theorem dX1_formatInvoice_44 : decode cX1_formatInvoice 44 = .ok (.aload_n 3, 1) := dk_45 (dk_at dksX1_formatInvoice_1 20 rfl rfl)
theorem dX1_formatInvoice_45 : decode cX1_formatInvoice 45 = .ok (.getfield 298, 3) := dk_180 1 42 (dk_at dksX1_formatInvoice_1 21 rfl rfl)
theorem dX1_formatInvoice_48 : decode cX1_formatInvoice 48 = .ok (.iload_n 2, 1) := dk_28 (dk_at dksX1_formatInvoice_2 0 rfl rfl)
theorem dX1_formatInvoice_49 : decode cX1_formatInvoice 49 = .ok (.aaload, 1) := dk_50 (dk_at dksX1_formatInvoice_2 1 rfl rfl)
theorem dX1_formatInvoice_50 : decode cX1_formatInvoice 50 = .ok (.iload 4, 2) := dk_21 4 (dk_at dksX1_formatInvoice_2 2 rfl rfl)
theorem dX1_formatInvoice_52 : decode cX1_formatInvoice 52 = .ok (.laload, 1) := dk_47 (dk_at dksX1_formatInvoice_2 4 rfl rfl)
theorem dX1_formatInvoice_53 : decode cX1_formatInvoice 53 = .ok (.invokevirtual 479, 3) := dk_182 1 223 (dk_at dksX1_formatInvoice_2 5 rfl rfl)
theorem dX1_formatInvoice_56 : decode cX1_formatInvoice 56 = .ok (.iinc 4 1, 3) := dk_132 4 1 (dk_at dksX1_formatInvoice_2 8 rfl rfl)
theorem dX1_formatInvoice_59 : decode cX1_formatInvoice 59 = .ok (.goto (-28), 3) := dk_167 255 228 (dk_at dksX1_formatInvoice_2 11 rfl rfl)
theorem dX1_formatInvoice_62 : decode cX1_formatInvoice 62 = .ok (.aload_n 0, 1) := dk_42 (dk_at dksX1_formatInvoice_2 14 rfl rfl)
theorem dX1_formatInvoice_63 : decode cX1_formatInvoice 63 = .ok (.getfield 63, 3) := dk_180 0 63 (dk_at dksX1_formatInvoice_2 15 rfl rfl)
theorem dX1_formatInvoice_66 : decode cX1_formatInvoice 66 = .ok (.invokevirtual 442, 3) := dk_182 1 186 (dk_at dksX1_formatInvoice_2 18 rfl rfl)
theorem dX1_formatInvoice_69 : decode cX1_formatInvoice 69 = .ok (.ireturn, 1) := dk_172 (dk_at dksX1_formatInvoice_2 21 rfl rfl)
abbrev cX1_nameOf : ByteArray := prog_1_method_78_code
def yX1_nameOf : MethodName := ⟨RX1, "nameOf", "(I)Ljava/lang/String;"⟩
def dkwX1_nameOf_3 : List UInt8 := [19, 1, 211, 167, 0, 12, 19, 1, 213, 167, 0, 6, 19, 1, 215, 176]
abbrev dktX1_nameOf_3 : List UInt8 := dkwX1_nameOf_3 ++ []
def dkwX1_nameOf_2 : List UInt8 := [19, 1, 205, 167, 0, 36, 19, 1, 206, 167, 0, 30, 19, 1, 208, 167, 0, 24, 19, 1, 209, 167, 0, 18]
abbrev dktX1_nameOf_2 : List UInt8 := dkwX1_nameOf_2 ++ dktX1_nameOf_3
def dkwX1_nameOf_1 : List UInt8 := [170, 0, 0, 0, 0, 0, 75, 0, 0, 0, 0, 0, 0, 0, 5, 0, 0, 0, 39, 0, 0, 0, 45, 0, 0, 0, 51, 0, 0, 0, 57, 0, 0, 0, 63, 0, 0, 0, 69]
abbrev dktX1_nameOf_1 : List UInt8 := dkwX1_nameOf_1 ++ dktX1_nameOf_2
def dkwX1_nameOf_0 : List UInt8 := [26]
abbrev dktX1_nameOf_0 : List UInt8 := dkwX1_nameOf_0 ++ dktX1_nameOf_1
theorem dksX1_nameOf_0 : cX1_nameOf.data.toList.drop 0 = dktX1_nameOf_0 := by decide +kernel
theorem dksX1_nameOf_1 : cX1_nameOf.data.toList.drop 1 = dktX1_nameOf_1 := dk_seg dksX1_nameOf_0 1 rfl rfl
theorem dksX1_nameOf_2 : cX1_nameOf.data.toList.drop 40 = dktX1_nameOf_2 := dk_seg dksX1_nameOf_1 39 rfl rfl
theorem dksX1_nameOf_3 : cX1_nameOf.data.toList.drop 64 = dktX1_nameOf_3 := dk_seg dksX1_nameOf_2 24 rfl rfl
theorem dX1_nameOf_0 : decode cX1_nameOf 0 = .ok (.iload_n 0, 1) := dk_26 (dk_at dksX1_nameOf_0 0 rfl rfl)
theorem dX1_nameOf_1 : decode cX1_nameOf 1 = .ok (.tableswitch 75 0 5 #[39, 45, 51, 57, 63, 69], 39) := by decide +kernel
theorem dX1_nameOf_40 : decode cX1_nameOf 40 = .ok (.ldc_w 461, 3) := dk_19 1 205 (dk_at dksX1_nameOf_2 0 rfl rfl)
theorem dX1_nameOf_43 : decode cX1_nameOf 43 = .ok (.goto 36, 3) := dk_167 0 36 (dk_at dksX1_nameOf_2 3 rfl rfl)
theorem dX1_nameOf_46 : decode cX1_nameOf 46 = .ok (.ldc_w 462, 3) := dk_19 1 206 (dk_at dksX1_nameOf_2 6 rfl rfl)
theorem dX1_nameOf_49 : decode cX1_nameOf 49 = .ok (.goto 30, 3) := dk_167 0 30 (dk_at dksX1_nameOf_2 9 rfl rfl)
theorem dX1_nameOf_52 : decode cX1_nameOf 52 = .ok (.ldc_w 464, 3) := dk_19 1 208 (dk_at dksX1_nameOf_2 12 rfl rfl)
theorem dX1_nameOf_55 : decode cX1_nameOf 55 = .ok (.goto 24, 3) := dk_167 0 24 (dk_at dksX1_nameOf_2 15 rfl rfl)
theorem dX1_nameOf_58 : decode cX1_nameOf 58 = .ok (.ldc_w 465, 3) := dk_19 1 209 (dk_at dksX1_nameOf_2 18 rfl rfl)
theorem dX1_nameOf_61 : decode cX1_nameOf 61 = .ok (.goto 18, 3) := dk_167 0 18 (dk_at dksX1_nameOf_2 21 rfl rfl)
theorem dX1_nameOf_64 : decode cX1_nameOf 64 = .ok (.ldc_w 467, 3) := dk_19 1 211 (dk_at dksX1_nameOf_3 0 rfl rfl)
theorem dX1_nameOf_67 : decode cX1_nameOf 67 = .ok (.goto 12, 3) := dk_167 0 12 (dk_at dksX1_nameOf_3 3 rfl rfl)
theorem dX1_nameOf_70 : decode cX1_nameOf 70 = .ok (.ldc_w 469, 3) := dk_19 1 213 (dk_at dksX1_nameOf_3 6 rfl rfl)
theorem dX1_nameOf_73 : decode cX1_nameOf 73 = .ok (.goto 6, 3) := dk_167 0 6 (dk_at dksX1_nameOf_3 9 rfl rfl)
theorem dX1_nameOf_76 : decode cX1_nameOf 76 = .ok (.ldc_w 471, 3) := dk_19 1 215 (dk_at dksX1_nameOf_3 12 rfl rfl)
theorem dX1_nameOf_79 : decode cX1_nameOf 79 = .ok (.areturn, 1) := dk_176 (dk_at dksX1_nameOf_3 15 rfl rfl)
abbrev cX1_format : ByteArray := prog_1_method_77_code
def yX1_format : MethodName := ⟨RX1, "format", "(Ljava/lang/String;J)V"⟩
def dkwX1_format_4 : List UInt8 := [182, 1, 200, 87, 177]
abbrev dktX1_format_4 : List UInt8 := dkwX1_format_4 ++ []
def dkwX1_format_3 : List UInt8 := [16, 46, 182, 1, 189, 22, 4, 20, 1, 198, 113, 20, 1, 203, 109, 182, 1, 200, 22, 4, 20, 1, 203, 113]
abbrev dktX1_format_3 : List UInt8 := dkwX1_format_3 ++ dktX1_format_4
def dkwX1_format_2 : List UInt8 := [182, 1, 189, 87, 32, 184, 1, 196, 55, 4, 42, 180, 0, 63, 22, 4, 20, 1, 198, 109, 182, 1, 200]
abbrev dktX1_format_2 : List UInt8 := dkwX1_format_2 ++ dktX1_format_3
def dkwX1_format_1 : List UInt8 := [43, 182, 1, 193, 16, 32, 182, 1, 189, 87, 32, 9, 148, 156, 0, 13, 42, 180, 0, 63, 16, 45]
abbrev dktX1_format_1 : List UInt8 := dkwX1_format_1 ++ dktX1_format_2
def dkwX1_format_0 : List UInt8 := [42, 180, 0, 63, 182, 1, 186, 158, 0, 13, 42, 180, 0, 63, 16, 32, 182, 1, 189, 87, 42, 180, 0, 63]
abbrev dktX1_format_0 : List UInt8 := dkwX1_format_0 ++ dktX1_format_1
theorem dksX1_format_0 : cX1_format.data.toList.drop 0 = dktX1_format_0 := by decide +kernel
theorem dksX1_format_1 : cX1_format.data.toList.drop 24 = dktX1_format_1 := dk_seg dksX1_format_0 24 rfl rfl
theorem dksX1_format_2 : cX1_format.data.toList.drop 46 = dktX1_format_2 := dk_seg dksX1_format_1 22 rfl rfl
theorem dksX1_format_3 : cX1_format.data.toList.drop 69 = dktX1_format_3 := dk_seg dksX1_format_2 23 rfl rfl
theorem dksX1_format_4 : cX1_format.data.toList.drop 93 = dktX1_format_4 := dk_seg dksX1_format_3 24 rfl rfl
theorem dX1_format_0 : decode cX1_format 0 = .ok (.aload_n 0, 1) := dk_42 (dk_at dksX1_format_0 0 rfl rfl)
theorem dX1_format_1 : decode cX1_format 1 = .ok (.getfield 63, 3) := dk_180 0 63 (dk_at dksX1_format_0 1 rfl rfl)
theorem dX1_format_4 : decode cX1_format 4 = .ok (.invokevirtual 442, 3) := dk_182 1 186 (dk_at dksX1_format_0 4 rfl rfl)
theorem dX1_format_7 : decode cX1_format 7 = .ok (.ifCond .le 13, 3) := dk_158 0 13 (dk_at dksX1_format_0 7 rfl rfl)
theorem dX1_format_10 : decode cX1_format 10 = .ok (.aload_n 0, 1) := dk_42 (dk_at dksX1_format_0 10 rfl rfl)
theorem dX1_format_11 : decode cX1_format 11 = .ok (.getfield 63, 3) := dk_180 0 63 (dk_at dksX1_format_0 11 rfl rfl)
theorem dX1_format_14 : decode cX1_format 14 = .ok (.bipush 32, 2) := dk_16 32 (dk_at dksX1_format_0 14 rfl rfl)
theorem dX1_format_16 : decode cX1_format 16 = .ok (.invokevirtual 445, 3) := dk_182 1 189 (dk_at dksX1_format_0 16 rfl rfl)
theorem dX1_format_19 : decode cX1_format 19 = .ok (.pop, 1) := dk_87 (dk_at dksX1_format_0 19 rfl rfl)
theorem dX1_format_20 : decode cX1_format 20 = .ok (.aload_n 0, 1) := dk_42 (dk_at dksX1_format_0 20 rfl rfl)
theorem dX1_format_21 : decode cX1_format 21 = .ok (.getfield 63, 3) := dk_180 0 63 (dk_at dksX1_format_0 21 rfl rfl)
theorem dX1_format_24 : decode cX1_format 24 = .ok (.aload_n 1, 1) := dk_43 (dk_at dksX1_format_1 0 rfl rfl)
theorem dX1_format_25 : decode cX1_format 25 = .ok (.invokevirtual 449, 3) := dk_182 1 193 (dk_at dksX1_format_1 1 rfl rfl)
theorem dX1_format_28 : decode cX1_format 28 = .ok (.bipush 32, 2) := dk_16 32 (dk_at dksX1_format_1 4 rfl rfl)
theorem dX1_format_30 : decode cX1_format 30 = .ok (.invokevirtual 445, 3) := dk_182 1 189 (dk_at dksX1_format_1 6 rfl rfl)
theorem dX1_format_33 : decode cX1_format 33 = .ok (.pop, 1) := dk_87 (dk_at dksX1_format_1 9 rfl rfl)
theorem dX1_format_34 : decode cX1_format 34 = .ok (.lload_n 2, 1) := dk_32 (dk_at dksX1_format_1 10 rfl rfl)
theorem dX1_format_35 : decode cX1_format 35 = .ok (.lconst 0, 1) := dk_9 (dk_at dksX1_format_1 11 rfl rfl)
theorem dX1_format_36 : decode cX1_format 36 = .ok (.lcmp, 1) := dk_148 (dk_at dksX1_format_1 12 rfl rfl)
theorem dX1_format_37 : decode cX1_format 37 = .ok (.ifCond .ge 13, 3) := dk_156 0 13 (dk_at dksX1_format_1 13 rfl rfl)
theorem dX1_format_40 : decode cX1_format 40 = .ok (.aload_n 0, 1) := dk_42 (dk_at dksX1_format_1 16 rfl rfl)
theorem dX1_format_41 : decode cX1_format 41 = .ok (.getfield 63, 3) := dk_180 0 63 (dk_at dksX1_format_1 17 rfl rfl)
theorem dX1_format_44 : decode cX1_format 44 = .ok (.bipush 45, 2) := dk_16 45 (dk_at dksX1_format_1 20 rfl rfl)
theorem dX1_format_46 : decode cX1_format 46 = .ok (.invokevirtual 445, 3) := dk_182 1 189 (dk_at dksX1_format_2 0 rfl rfl)
theorem dX1_format_49 : decode cX1_format 49 = .ok (.pop, 1) := dk_87 (dk_at dksX1_format_2 3 rfl rfl)
theorem dX1_format_50 : decode cX1_format 50 = .ok (.lload_n 2, 1) := dk_32 (dk_at dksX1_format_2 4 rfl rfl)
theorem dX1_format_51 : decode cX1_format 51 = .ok (.invokestatic 452, 3) := dk_184 1 196 (dk_at dksX1_format_2 5 rfl rfl)
theorem dX1_format_54 : decode cX1_format 54 = .ok (.lstore 4, 2) := dk_55 4 (dk_at dksX1_format_2 8 rfl rfl)
theorem dX1_format_56 : decode cX1_format 56 = .ok (.aload_n 0, 1) := dk_42 (dk_at dksX1_format_2 10 rfl rfl)
theorem dX1_format_57 : decode cX1_format 57 = .ok (.getfield 63, 3) := dk_180 0 63 (dk_at dksX1_format_2 11 rfl rfl)
theorem dX1_format_60 : decode cX1_format 60 = .ok (.lload 4, 2) := dk_22 4 (dk_at dksX1_format_2 14 rfl rfl)
theorem dX1_format_62 : decode cX1_format 62 = .ok (.ldc2_w 454, 3) := dk_20 1 198 (dk_at dksX1_format_2 16 rfl rfl)
theorem dX1_format_65 : decode cX1_format 65 = .ok (.ldiv, 1) := dk_109 (dk_at dksX1_format_2 19 rfl rfl)
theorem dX1_format_66 : decode cX1_format 66 = .ok (.invokevirtual 456, 3) := dk_182 1 200 (dk_at dksX1_format_2 20 rfl rfl)
theorem dX1_format_69 : decode cX1_format 69 = .ok (.bipush 46, 2) := dk_16 46 (dk_at dksX1_format_3 0 rfl rfl)
theorem dX1_format_71 : decode cX1_format 71 = .ok (.invokevirtual 445, 3) := dk_182 1 189 (dk_at dksX1_format_3 2 rfl rfl)
theorem dX1_format_74 : decode cX1_format 74 = .ok (.lload 4, 2) := dk_22 4 (dk_at dksX1_format_3 5 rfl rfl)
theorem dX1_format_76 : decode cX1_format 76 = .ok (.ldc2_w 454, 3) := dk_20 1 198 (dk_at dksX1_format_3 7 rfl rfl)
theorem dX1_format_79 : decode cX1_format 79 = .ok (.lrem, 1) := dk_113 (dk_at dksX1_format_3 10 rfl rfl)
theorem dX1_format_80 : decode cX1_format 80 = .ok (.ldc2_w 459, 3) := dk_20 1 203 (dk_at dksX1_format_3 11 rfl rfl)
theorem dX1_format_83 : decode cX1_format 83 = .ok (.ldiv, 1) := dk_109 (dk_at dksX1_format_3 14 rfl rfl)
theorem dX1_format_84 : decode cX1_format 84 = .ok (.invokevirtual 456, 3) := dk_182 1 200 (dk_at dksX1_format_3 15 rfl rfl)
theorem dX1_format_87 : decode cX1_format 87 = .ok (.lload 4, 2) := dk_22 4 (dk_at dksX1_format_3 18 rfl rfl)
theorem dX1_format_89 : decode cX1_format 89 = .ok (.ldc2_w 459, 3) := dk_20 1 203 (dk_at dksX1_format_3 20 rfl rfl)
theorem dX1_format_92 : decode cX1_format 92 = .ok (.lrem, 1) := dk_113 (dk_at dksX1_format_3 23 rfl rfl)
theorem dX1_format_93 : decode cX1_format 93 = .ok (.invokevirtual 456, 3) := dk_182 1 200 (dk_at dksX1_format_4 0 rfl rfl)
theorem dX1_format_96 : decode cX1_format 96 = .ok (.pop, 1) := dk_87 (dk_at dksX1_format_4 3 rfl rfl)
theorem dX1_format_97 : decode cX1_format 97 = .ok (.return_, 1) := dk_177 (dk_at dksX1_format_4 4 rfl rfl)
theorem q129 : (Jvm.Cond.initialized "FranchiseLedger") ∈ lw_all := lw_g (lw_at lw_m1 1 rfl) rfl
theorem q177 : (Jvm.Cond.instantiable "FranchiseLedger" (10 : Nat)) ∈ lw_all := lw_g (lw_at lw_m1 49 rfl) rfl
theorem q179 : (Jvm.Cond.instanceMethod ({ cls := "FranchiseLedger", name := "<init>", desc := "()V" } : Jvm.MethodName)) ∈ lw_all := lw_g (lw_at lw_m1 51 rfl) rfl
theorem q180 : (Jvm.Cond.code ({ cls := "FranchiseLedger", name := "<init>", desc := "()V" } : Jvm.MethodName) prog_1_method_8_code (1 : Nat) (Option.none : Option Jvm.ClassFile.FieldType)) ∈ lw_all := lw_g (lw_at lw_m1 52 rfl) rfl
theorem q181 : (Jvm.Cond.methodLink "FranchiseLedger" (24 : Nat) ({ cls := "java/lang/Object", name := "<init>", desc := "()V" } : Jvm.MethodName)) ∈ lw_all := lw_g (lw_at lw_m1 53 rfl) rfl
theorem q184 : (Jvm.Cond.classLink "FranchiseLedger" (27 : Nat) "FranchiseLedger$Rules") ∈ lw_all := lw_g (lw_at lw_m1 56 rfl) rfl
theorem q186 : (Jvm.Cond.methodLinkNest "FranchiseLedger" (29 : Nat) ({ cls := "FranchiseLedger$Rules", name := "<init>", desc := "()V" } : Jvm.MethodName) "FranchiseLedger") ∈ lw_tbl := lw_at lw_m1 58 rfl
theorem q554 : (Jvm.Cond.fieldLinkNest "FranchiseLedger" (117 : Nat) "FranchiseLedger$Rules" "plans" "Ljava/util/List;" "FranchiseLedger") ∈ lw_tbl := lw_at lw_m2 186 rfl
theorem q563 : (Jvm.Cond.fieldLinkNest "FranchiseLedger" (315 : Nat) "FranchiseLedger$Rules" "interest" "LFranchiseLedger$Rate;" "FranchiseLedger") ∈ lw_tbl := lw_at lw_m2 195 rfl
theorem q573 : (Jvm.Cond.fieldLinkNest "FranchiseLedger" (370 : Nat) "FranchiseLedger$Rules" "delay" "I" "FranchiseLedger") ∈ lw_tbl := lw_at lw_m2 205 rfl
theorem q575 : (Jvm.Cond.fieldLinkNest "FranchiseLedger" (350 : Nat) "FranchiseLedger$Rules" "leastWorth" "I" "FranchiseLedger") ∈ lw_tbl := lw_at lw_m2 207 rfl
theorem q577 : (Jvm.Cond.fieldLinkNest "FranchiseLedger" (538 : Nat) "FranchiseLedger$Rules" "statements" "I" "FranchiseLedger") ∈ lw_tbl := lw_at lw_m2 209 rfl
theorem q599 : (Jvm.Cond.classLink "FranchiseLedger" (34 : Nat) "FranchiseLedger$Books") ∈ lw_all := lw_g (lw_at lw_m2 231 rfl) rfl
theorem q601 : (Jvm.Cond.methodLinkNest "FranchiseLedger" (36 : Nat) ({ cls := "FranchiseLedger$Books", name := "<init>", desc := "(LFranchiseLedger;)V" } : Jvm.MethodName) "FranchiseLedger") ∈ lw_tbl := lw_at lw_m2 233 rfl
theorem q616 : (Jvm.Cond.fieldLinkNest "FranchiseLedger" (175 : Nat) "FranchiseLedger$Grid" "owners" "[B" "FranchiseLedger") ∈ lw_tbl := lw_at lw_m3 8 rfl
theorem q631 : (Jvm.Cond.fieldLinkNest "FranchiseLedger" (74 : Nat) "FranchiseLedger$Books" "franchisees" "Ljava/util/List;" "FranchiseLedger") ∈ lw_tbl := lw_at lw_m3 23 rfl
theorem q634 : (Jvm.Cond.fieldLinkNest "FranchiseLedger" (102 : Nat) "FranchiseLedger$Books" "outlets" "Ljava/util/List;" "FranchiseLedger") ∈ lw_tbl := lw_at lw_m3 26 rfl
theorem q638 : (Jvm.Cond.fieldLinkNest "FranchiseLedger" (171 : Nat) "FranchiseLedger$Books" "grid" "LFranchiseLedger$Grid;" "FranchiseLedger") ∈ lw_tbl := lw_at lw_m3 30 rfl
theorem q640 : (Jvm.Cond.fieldLinkNest "FranchiseLedger" (276 : Nat) "FranchiseLedger$Books" "delivered" "[[J" "FranchiseLedger") ∈ lw_tbl := lw_at lw_m3 32 rfl
theorem q642 : (Jvm.Cond.fieldLinkNest "FranchiseLedger" (332 : Nat) "FranchiseLedger$Books" "spent" "[J" "FranchiseLedger") ∈ lw_tbl := lw_at lw_m3 34 rfl
theorem q644 : (Jvm.Cond.fieldLinkNest "FranchiseLedger" (111 : Nat) "FranchiseLedger$Books" "month" "I" "FranchiseLedger") ∈ lw_tbl := lw_at lw_m3 36 rfl
theorem q663 : (Jvm.Cond.classLink "FranchiseLedger" (51 : Nat) "java/util/LinkedList") ∈ lw_all := lw_g (lw_at lw_m3 55 rfl) rfl
theorem q665 : (Jvm.Cond.methodLink "FranchiseLedger" (53 : Nat) ({ cls := "java/util/LinkedList", name := "<init>", desc := "()V" } : Jvm.MethodName)) ∈ lw_all := lw_g (lw_at lw_m3 57 rfl) rfl
theorem q683 : (Jvm.Cond.classLink "FranchiseLedger" (58 : Nat) "java/lang/StringBuilder") ∈ lw_all := lw_g (lw_at lw_m3 75 rfl) rfl
theorem q684 : (Jvm.Cond.methodLink "FranchiseLedger" (60 : Nat) ({ cls := "java/lang/StringBuilder", name := "<init>", desc := "(I)V" } : Jvm.MethodName)) ∈ lw_all := lw_g (lw_at lw_m3 76 rfl) rfl
theorem q688 : (Jvm.Cond.fieldLink "FranchiseLedger" (30 : Nat) "FranchiseLedger" "rules" "LFranchiseLedger$Rules;") ∈ lw_all := lw_g (lw_at lw_m3 80 rfl) rfl
theorem q690 : (Jvm.Cond.fieldLink "FranchiseLedger" (39 : Nat) "FranchiseLedger" "books" "LFranchiseLedger$Books;") ∈ lw_all := lw_g (lw_at lw_m3 82 rfl) rfl
theorem q691 : (Jvm.Cond.fieldLink "FranchiseLedger" (43 : Nat) "FranchiseLedger" "snapshots" "[LFranchiseLedger$Books;") ∈ lw_all := lw_g (lw_at lw_m3 83 rfl) rfl
theorem q692 : (Jvm.Cond.fieldLink "FranchiseLedger" (47 : Nat) "FranchiseLedger" "ownersBefore" "[B") ∈ lw_all := lw_g (lw_at lw_m3 84 rfl) rfl
theorem q693 : (Jvm.Cond.fieldLink "FranchiseLedger" (54 : Nat) "FranchiseLedger" "journal" "Ljava/util/LinkedList;") ∈ lw_all := lw_g (lw_at lw_m3 85 rfl) rfl
theorem q694 : (Jvm.Cond.fieldLink "FranchiseLedger" (63 : Nat) "FranchiseLedger" "formatted" "Ljava/lang/StringBuilder;") ∈ lw_all := lw_g (lw_at lw_m3 86 rfl) rfl
theorem q696 : (Jvm.Cond.fieldLink "FranchiseLedger" (67 : Nat) "FranchiseLedger" "buffer" "[B") ∈ lw_all := lw_g (lw_at lw_m3 88 rfl) rfl
theorem q698 : (Jvm.Cond.fieldLink "FranchiseLedger" (487 : Nat) "FranchiseLedger" "bufferLength" "I") ∈ lw_all := lw_g (lw_at lw_m3 90 rfl) rfl
theorem q700 : (Jvm.Cond.fieldLink "FranchiseLedger" (502 : Nat) "FranchiseLedger" "errorCode" "I") ∈ lw_all := lw_g (lw_at lw_m3 92 rfl) rfl
theorem q702 : (Jvm.Cond.fieldLink "FranchiseLedger" (70 : Nat) "FranchiseLedger" "errorPosition" "I") ∈ lw_all := lw_g (lw_at lw_m3 94 rfl) rfl
theorem q703 : (Jvm.Cond.lays "FranchiseLedger" "FranchiseLedger" "rules" "LFranchiseLedger$Rules;") ∈ lw_all := lw_g (lw_at lw_m3 95 rfl) rfl
theorem q704 : (Jvm.Cond.soleField "FranchiseLedger" "rules") ∈ lw_all := lw_g (lw_at lw_m3 96 rfl) rfl
theorem q705 : (Jvm.Cond.lays "FranchiseLedger" "FranchiseLedger" "books" "LFranchiseLedger$Books;") ∈ lw_all := lw_g (lw_at lw_m3 97 rfl) rfl
theorem q706 : (Jvm.Cond.soleField "FranchiseLedger" "books") ∈ lw_all := lw_g (lw_at lw_m3 98 rfl) rfl
theorem q707 : (Jvm.Cond.laysFinal "FranchiseLedger" "FranchiseLedger" "snapshots" "[LFranchiseLedger$Books;") ∈ lw_all := lw_g (lw_at lw_m3 99 rfl) rfl
theorem q708 : (Jvm.Cond.soleField "FranchiseLedger" "snapshots") ∈ lw_all := lw_g (lw_at lw_m3 100 rfl) rfl
theorem q709 : (Jvm.Cond.laysFinal "FranchiseLedger" "FranchiseLedger" "ownersBefore" "[B") ∈ lw_all := lw_g (lw_at lw_m3 101 rfl) rfl
theorem q710 : (Jvm.Cond.soleField "FranchiseLedger" "ownersBefore") ∈ lw_all := lw_g (lw_at lw_m3 102 rfl) rfl
theorem q711 : (Jvm.Cond.laysFinal "FranchiseLedger" "FranchiseLedger" "journal" "Ljava/util/LinkedList;") ∈ lw_all := lw_g (lw_at lw_m3 103 rfl) rfl
theorem q712 : (Jvm.Cond.soleField "FranchiseLedger" "journal") ∈ lw_all := lw_g (lw_at lw_m3 104 rfl) rfl
theorem q713 : (Jvm.Cond.laysFinal "FranchiseLedger" "FranchiseLedger" "formatted" "Ljava/lang/StringBuilder;") ∈ lw_all := lw_g (lw_at lw_m3 105 rfl) rfl
theorem q714 : (Jvm.Cond.soleField "FranchiseLedger" "formatted") ∈ lw_all := lw_g (lw_at lw_m3 106 rfl) rfl
theorem q715 : (Jvm.Cond.laysFinal "FranchiseLedger" "FranchiseLedger" "buffer" "[B") ∈ lw_all := lw_g (lw_at lw_m3 107 rfl) rfl
theorem q716 : (Jvm.Cond.soleField "FranchiseLedger" "buffer") ∈ lw_all := lw_g (lw_at lw_m3 108 rfl) rfl
theorem q717 : (Jvm.Cond.lays "FranchiseLedger" "FranchiseLedger" "bufferLength" "I") ∈ lw_all := lw_g (lw_at lw_m3 109 rfl) rfl
theorem q718 : (Jvm.Cond.soleField "FranchiseLedger" "bufferLength") ∈ lw_all := lw_g (lw_at lw_m3 110 rfl) rfl
theorem q719 : (Jvm.Cond.lays "FranchiseLedger" "FranchiseLedger" "errorCode" "I") ∈ lw_all := lw_g (lw_at lw_m3 111 rfl) rfl
theorem q720 : (Jvm.Cond.soleField "FranchiseLedger" "errorCode") ∈ lw_all := lw_g (lw_at lw_m3 112 rfl) rfl
theorem q721 : (Jvm.Cond.lays "FranchiseLedger" "FranchiseLedger" "errorPosition" "I") ∈ lw_all := lw_g (lw_at lw_m3 113 rfl) rfl
theorem q722 : (Jvm.Cond.soleField "FranchiseLedger" "errorPosition") ∈ lw_all := lw_g (lw_at lw_m3 114 rfl) rfl
theorem q723 : (Jvm.Cond.superclass "FranchiseLedger" "java/lang/Object") ∈ lw_all := lw_g (lw_at lw_m3 115 rfl) rfl
theorem q725 : (Jvm.Cond.instanceMethod ({ cls := "FranchiseLedger", name := "count", desc := "(I)I" } : Jvm.MethodName)) ∈ lw_all := lw_g (lw_at lw_m3 117 rfl) rfl
theorem q726 : (Jvm.Cond.selects "FranchiseLedger" ({ cls := "FranchiseLedger", name := "count", desc := "(I)I" } : Jvm.MethodName) ({ cls := "FranchiseLedger", name := "count", desc := "(I)I" } : Jvm.MethodName)) ∈ lw_all := lw_g (lw_at lw_m3 118 rfl) rfl
theorem q727 : (Jvm.Cond.code ({ cls := "FranchiseLedger", name := "count", desc := "(I)I" } : Jvm.MethodName) prog_1_method_16_code (2 : Nat) (Option.some Jvm.ClassFile.FieldType.int)) ∈ lw_all := lw_g (lw_at lw_m3 119 rfl) rfl
theorem q728 : (Jvm.Cond.interfaceEntry "FranchiseLedger" (78 : Nat)) ∈ lw_tbl := lw_at lw_m3 120 rfl
theorem q729 : (Jvm.Cond.methodLink "FranchiseLedger" (78 : Nat) ({ cls := "java/util/List", name := "size", desc := "()I" } : Jvm.MethodName)) ∈ lw_all := lw_g (lw_at lw_m3 121 rfl) rfl
theorem q744 : (Jvm.Cond.methodLink "FranchiseLedger" (120 : Nat) ({ cls := "java/util/LinkedList", name := "size", desc := "()I" } : Jvm.MethodName)) ∈ lw_all := lw_g (lw_at lw_m3 136 rfl) rfl
theorem q746 : (Jvm.Cond.instanceMethod ({ cls := "FranchiseLedger", name := "month", desc := "()I" } : Jvm.MethodName)) ∈ lw_all := lw_g (lw_at lw_m3 138 rfl) rfl
theorem q747 : (Jvm.Cond.selects "FranchiseLedger" ({ cls := "FranchiseLedger", name := "month", desc := "()I" } : Jvm.MethodName) ({ cls := "FranchiseLedger", name := "month", desc := "()I" } : Jvm.MethodName)) ∈ lw_all := lw_g (lw_at lw_m3 139 rfl) rfl
theorem q748 : (Jvm.Cond.code ({ cls := "FranchiseLedger", name := "month", desc := "()I" } : Jvm.MethodName) prog_1_method_17_code (1 : Nat) (Option.some Jvm.ClassFile.FieldType.int)) ∈ lw_all := lw_g (lw_at lw_m3 140 rfl) rfl
theorem q750 : (Jvm.Cond.instanceMethod ({ cls := "FranchiseLedger", name := "ranked", desc := "(I)I" } : Jvm.MethodName)) ∈ lw_all := lw_g (lw_at lw_m3 142 rfl) rfl
theorem q751 : (Jvm.Cond.selects "FranchiseLedger" ({ cls := "FranchiseLedger", name := "ranked", desc := "(I)I" } : Jvm.MethodName) ({ cls := "FranchiseLedger", name := "ranked", desc := "(I)I" } : Jvm.MethodName)) ∈ lw_all := lw_g (lw_at lw_m3 143 rfl) rfl
theorem q752 : (Jvm.Cond.code ({ cls := "FranchiseLedger", name := "ranked", desc := "(I)I" } : Jvm.MethodName) prog_1_method_52_code (9 : Nat) (Option.some Jvm.ClassFile.FieldType.int)) ∈ lw_all := lw_g (lw_at lw_m3 144 rfl) rfl
theorem q753 : (Jvm.Cond.interfaceEntry "FranchiseLedger" (96 : Nat)) ∈ lw_tbl := lw_at lw_m3 145 rfl
theorem q754 : (Jvm.Cond.methodLink "FranchiseLedger" (96 : Nat) ({ cls := "java/util/List", name := "get", desc := "(I)Ljava/lang/Object;" } : Jvm.MethodName)) ∈ lw_all := lw_g (lw_at lw_m3 146 rfl) rfl
theorem q815 : (Jvm.Cond.classLink "FranchiseLedger" (100 : Nat) "FranchiseLedger$Franchisee") ∈ lw_all := lw_g (lw_at lw_m3 207 rfl) rfl
theorem q816 : (Jvm.Cond.methodLink "FranchiseLedger" (286 : Nat) ({ cls := "FranchiseLedger$Franchisee", name := "salesOf", desc := "(I)J" } : Jvm.MethodName)) ∈ lw_all := lw_g (lw_at lw_m3 208 rfl) rfl
theorem q821 : (Jvm.Cond.instanceMethod ({ cls := "FranchiseLedger", name := "totalOwed", desc := "()J" } : Jvm.MethodName)) ∈ lw_all := lw_g (lw_at lw_m3 213 rfl) rfl
theorem q822 : (Jvm.Cond.selects "FranchiseLedger" ({ cls := "FranchiseLedger", name := "totalOwed", desc := "()J" } : Jvm.MethodName) ({ cls := "FranchiseLedger", name := "totalOwed", desc := "()J" } : Jvm.MethodName)) ∈ lw_all := lw_g (lw_at lw_m3 214 rfl) rfl
theorem q823 : (Jvm.Cond.code ({ cls := "FranchiseLedger", name := "totalOwed", desc := "()J" } : Jvm.MethodName) prog_1_method_57_code (4 : Nat) (Option.some Jvm.ClassFile.FieldType.long)) ∈ lw_all := lw_g (lw_at lw_m3 215 rfl) rfl
theorem q824 : (Jvm.Cond.methodLink "FranchiseLedger" (307 : Nat) ({ cls := "java/lang/Math", name := "max", desc := "(JJ)J" } : Jvm.MethodName)) ∈ lw_all := lw_g (lw_at lw_m3 216 rfl) rfl
theorem q828 : (Jvm.Cond.instanceMethod ({ cls := "FranchiseLedger", name := "fundBalance", desc := "()J" } : Jvm.MethodName)) ∈ lw_all := lw_g (lw_at lw_m3 220 rfl) rfl
theorem q829 : (Jvm.Cond.selects "FranchiseLedger" ({ cls := "FranchiseLedger", name := "fundBalance", desc := "()J" } : Jvm.MethodName) ({ cls := "FranchiseLedger", name := "fundBalance", desc := "()J" } : Jvm.MethodName)) ∈ lw_all := lw_g (lw_at lw_m3 221 rfl) rfl
theorem q830 : (Jvm.Cond.code ({ cls := "FranchiseLedger", name := "fundBalance", desc := "()J" } : Jvm.MethodName) prog_1_method_61_code (1 : Nat) (Option.some Jvm.ClassFile.FieldType.long)) ∈ lw_all := lw_g (lw_at lw_m3 222 rfl) rfl
theorem q831 : (Jvm.Cond.methodLink "FranchiseLedger" (327 : Nat) ({ cls := "FranchiseLedger$Books", name := "fund", desc := "()J" } : Jvm.MethodName)) ∈ lw_all := lw_g (lw_at lw_m3 223 rfl) rfl
theorem q845 : (Jvm.Cond.instanceMethod ({ cls := "FranchiseLedger", name := "saveSnapshot", desc := "(I)Z" } : Jvm.MethodName)) ∈ lw_all := lw_g (lw_at lw_m3 237 rfl) rfl
theorem q846 : (Jvm.Cond.selects "FranchiseLedger" ({ cls := "FranchiseLedger", name := "saveSnapshot", desc := "(I)Z" } : Jvm.MethodName) ({ cls := "FranchiseLedger", name := "saveSnapshot", desc := "(I)Z" } : Jvm.MethodName)) ∈ lw_all := lw_g (lw_at lw_m3 238 rfl) rfl
theorem q847 : (Jvm.Cond.code ({ cls := "FranchiseLedger", name := "saveSnapshot", desc := "(I)Z" } : Jvm.MethodName) prog_1_method_75_code (2 : Nat) (Option.some Jvm.ClassFile.FieldType.boolean)) ∈ lw_all := lw_g (lw_at lw_m3 239 rfl) rfl
theorem q848 : (Jvm.Cond.methodLink "FranchiseLedger" (84 : Nat) ({ cls := "FranchiseLedger", name := "inRange", desc := "(JJJ)Z" } : Jvm.MethodName)) ∈ lw_all := lw_g (lw_at lw_m4 0 rfl) rfl
theorem q849 : (Jvm.Cond.static ({ cls := "FranchiseLedger", name := "inRange", desc := "(JJJ)Z" } : Jvm.MethodName)) ∈ lw_all := lw_g (lw_at lw_m4 1 rfl) rfl
theorem q850 : (Jvm.Cond.code ({ cls := "FranchiseLedger", name := "inRange", desc := "(JJJ)Z" } : Jvm.MethodName) prog_1_method_1_code (6 : Nat) (Option.some Jvm.ClassFile.FieldType.boolean)) ∈ lw_all := lw_g (lw_at lw_m4 2 rfl) rfl
theorem q851 : (Jvm.Cond.methodLink "FranchiseLedger" (438 : Nat) ({ cls := "FranchiseLedger$Books", name := "copy", desc := "()LFranchiseLedger$Books;" } : Jvm.MethodName)) ∈ lw_all := lw_g (lw_at lw_m4 3 rfl) rfl
theorem q875 : (Jvm.Cond.fieldLinkNest "FranchiseLedger" (359 : Nat) "FranchiseLedger$Transfer" "state" "I" "FranchiseLedger") ∈ lw_tbl := lw_at lw_m4 27 rfl
theorem q878 : (Jvm.Cond.fieldLinkNest "FranchiseLedger" (369 : Nat) "FranchiseLedger$Transfer" "month" "I" "FranchiseLedger") ∈ lw_tbl := lw_at lw_m4 30 rfl
theorem q884 : (Jvm.Cond.fieldLinkNest "FranchiseLedger" (362 : Nat) "FranchiseLedger$Transfer" "voted" "I" "FranchiseLedger") ∈ lw_tbl := lw_at lw_m4 36 rfl
theorem q886 : (Jvm.Cond.fieldLinkNest "FranchiseLedger" (373 : Nat) "FranchiseLedger$Transfer" "price" "J" "FranchiseLedger") ∈ lw_tbl := lw_at lw_m4 38 rfl
theorem q905 : (Jvm.Cond.fieldLinkNest "FranchiseLedger" (343 : Nat) "FranchiseLedger$Franchisee" "transfer" "LFranchiseLedger$Transfer;" "FranchiseLedger") ∈ lw_tbl := lw_at lw_m4 57 rfl
theorem q908 : (Jvm.Cond.fieldLinkNest "FranchiseLedger" (298 : Nat) "FranchiseLedger$Franchisee" "invoices" "[[J" "FranchiseLedger") ∈ lw_tbl := lw_at lw_m4 60 rfl
theorem q911 : (Jvm.Cond.fieldLinkNest "FranchiseLedger" (283 : Nat) "FranchiseLedger$Franchisee" "sales" "[J" "FranchiseLedger") ∈ lw_tbl := lw_at lw_m4 63 rfl
theorem q914 : (Jvm.Cond.fieldLinkNest "FranchiseLedger" (138 : Nat) "FranchiseLedger$Franchisee" "plan" "I" "FranchiseLedger") ∈ lw_tbl := lw_at lw_m4 66 rfl
theorem q917 : (Jvm.Cond.fieldLinkNest "FranchiseLedger" (147 : Nat) "FranchiseLedger$Franchisee" "worth" "I" "FranchiseLedger") ∈ lw_tbl := lw_at lw_m4 69 rfl
theorem q920 : (Jvm.Cond.fieldLinkNest "FranchiseLedger" (141 : Nat) "FranchiseLedger$Franchisee" "status" "I" "FranchiseLedger") ∈ lw_tbl := lw_at lw_m4 72 rfl
theorem q923 : (Jvm.Cond.fieldLinkNest "FranchiseLedger" (144 : Nat) "FranchiseLedger$Franchisee" "generation" "I" "FranchiseLedger") ∈ lw_tbl := lw_at lw_m4 75 rfl
theorem q926 : (Jvm.Cond.fieldLinkNest "FranchiseLedger" (150 : Nat) "FranchiseLedger$Franchisee" "overdue" "I" "FranchiseLedger") ∈ lw_tbl := lw_at lw_m4 78 rfl
theorem q929 : (Jvm.Cond.fieldLinkNest "FranchiseLedger" (153 : Nat) "FranchiseLedger$Franchisee" "balance" "J" "FranchiseLedger") ∈ lw_tbl := lw_at lw_m4 81 rfl
theorem q932 : (Jvm.Cond.fieldLinkNest "FranchiseLedger" (157 : Nat) "FranchiseLedger$Franchisee" "contributions" "J" "FranchiseLedger") ∈ lw_tbl := lw_at lw_m4 84 rfl
theorem q934 : (Jvm.Cond.fieldLinkNest "FranchiseLedger" (335 : Nat) "FranchiseLedger$Franchisee" "grants" "J" "FranchiseLedger") ∈ lw_tbl := lw_at lw_m4 86 rfl
theorem q993 : (Jvm.Cond.selects "FranchiseLedger" ({ cls := "java/lang/Object", name := "getClass", desc := "()Ljava/lang/Class;" } : Jvm.MethodName) ({ cls := "java/lang/Object", name := "getClass", desc := "()Ljava/lang/Class;" } : Jvm.MethodName)) ∈ lw_all := lw_g (lw_at lw_m4 145 rfl) rfl
theorem q1063 : (Jvm.Cond.fieldLinkNest "FranchiseLedger" (128 : Nat) "FranchiseLedger$Outlet" "cell" "I" "FranchiseLedger") ∈ lw_tbl := lw_at lw_m4 215 rfl
theorem q1066 : (Jvm.Cond.fieldLinkNest "FranchiseLedger" (125 : Nat) "FranchiseLedger$Outlet" "owner" "I" "FranchiseLedger") ∈ lw_tbl := lw_at lw_m4 218 rfl
theorem q1069 : (Jvm.Cond.fieldLinkNest "FranchiseLedger" (272 : Nat) "FranchiseLedger$Outlet" "sales" "J" "FranchiseLedger") ∈ lw_tbl := lw_at lw_m4 221 rfl
theorem q1084 : (Jvm.Cond.instanceMethod ({ cls := "FranchiseLedger", name := "restoreSnapshot", desc := "(I)Z" } : Jvm.MethodName)) ∈ lw_all := lw_g (lw_at lw_m4 236 rfl) rfl
theorem q1085 : (Jvm.Cond.selects "FranchiseLedger" ({ cls := "FranchiseLedger", name := "restoreSnapshot", desc := "(I)Z" } : Jvm.MethodName) ({ cls := "FranchiseLedger", name := "restoreSnapshot", desc := "(I)Z" } : Jvm.MethodName)) ∈ lw_all := lw_g (lw_at lw_m4 237 rfl) rfl
theorem q1086 : (Jvm.Cond.code ({ cls := "FranchiseLedger", name := "restoreSnapshot", desc := "(I)Z" } : Jvm.MethodName) prog_1_method_76_code (2 : Nat) (Option.some Jvm.ClassFile.FieldType.boolean)) ∈ lw_all := lw_g (lw_at lw_m4 238 rfl) rfl
theorem q1088 : (Jvm.Cond.instanceMethod ({ cls := "FranchiseLedger", name := "formattedByte", desc := "(I)I" } : Jvm.MethodName)) ∈ lw_all := lw_g (lw_at lw_m5 0 rfl) rfl
theorem q1089 : (Jvm.Cond.selects "FranchiseLedger" ({ cls := "FranchiseLedger", name := "formattedByte", desc := "(I)I" } : Jvm.MethodName) ({ cls := "FranchiseLedger", name := "formattedByte", desc := "(I)I" } : Jvm.MethodName)) ∈ lw_all := lw_g (lw_at lw_m5 1 rfl) rfl
theorem q1090 : (Jvm.Cond.code ({ cls := "FranchiseLedger", name := "formattedByte", desc := "(I)I" } : Jvm.MethodName) prog_1_method_80_code (2 : Nat) (Option.some Jvm.ClassFile.FieldType.int)) ∈ lw_all := lw_g (lw_at lw_m5 2 rfl) rfl
theorem q1091 : (Jvm.Cond.methodLink "FranchiseLedger" (442 : Nat) ({ cls := "java/lang/StringBuilder", name := "length", desc := "()I" } : Jvm.MethodName)) ∈ lw_all := lw_g (lw_at lw_m5 3 rfl) rfl
theorem q1092 : (Jvm.Cond.methodLink "FranchiseLedger" (483 : Nat) ({ cls := "java/lang/StringBuilder", name := "charAt", desc := "(I)C" } : Jvm.MethodName)) ∈ lw_all := lw_g (lw_at lw_m5 4 rfl) rfl
theorem q1106 : (Jvm.Cond.instanceMethod ({ cls := "FranchiseLedger", name := "appendInput", desc := "(IIIII)I" } : Jvm.MethodName)) ∈ lw_all := lw_g (lw_at lw_m5 18 rfl) rfl
theorem q1107 : (Jvm.Cond.selects "FranchiseLedger" ({ cls := "FranchiseLedger", name := "appendInput", desc := "(IIIII)I" } : Jvm.MethodName) ({ cls := "FranchiseLedger", name := "appendInput", desc := "(IIIII)I" } : Jvm.MethodName)) ∈ lw_all := lw_g (lw_at lw_m5 19 rfl) rfl
theorem q1108 : (Jvm.Cond.code ({ cls := "FranchiseLedger", name := "appendInput", desc := "(IIIII)I" } : Jvm.MethodName) prog_1_method_82_code (6 : Nat) (Option.some Jvm.ClassFile.FieldType.int)) ∈ lw_all := lw_g (lw_at lw_m5 20 rfl) rfl
theorem q1109 : (Jvm.Cond.methodLink "FranchiseLedger" (490 : Nat) ({ cls := "FranchiseLedger", name := "append", desc := "([I)I" } : Jvm.MethodName)) ∈ lw_all := lw_g (lw_at lw_m5 21 rfl) rfl
theorem q1110 : (Jvm.Cond.privateMethod ({ cls := "FranchiseLedger", name := "append", desc := "([I)I" } : Jvm.MethodName)) ∈ lw_tbl := lw_at lw_m5 22 rfl
theorem q1111 : (Jvm.Cond.instanceMethod ({ cls := "FranchiseLedger", name := "append", desc := "([I)I" } : Jvm.MethodName)) ∈ lw_all := lw_g (lw_at lw_m5 23 rfl) rfl
theorem q1112 : (Jvm.Cond.code ({ cls := "FranchiseLedger", name := "append", desc := "([I)I" } : Jvm.MethodName) prog_1_method_81_code (7 : Nat) (Option.some Jvm.ClassFile.FieldType.int)) ∈ lw_all := lw_g (lw_at lw_m5 24 rfl) rfl
theorem q1114 : (Jvm.Cond.instanceMethod ({ cls := "FranchiseLedger", name := "truncateInput", desc := "(I)I" } : Jvm.MethodName)) ∈ lw_all := lw_g (lw_at lw_m5 26 rfl) rfl
theorem q1115 : (Jvm.Cond.selects "FranchiseLedger" ({ cls := "FranchiseLedger", name := "truncateInput", desc := "(I)I" } : Jvm.MethodName) ({ cls := "FranchiseLedger", name := "truncateInput", desc := "(I)I" } : Jvm.MethodName)) ∈ lw_all := lw_g (lw_at lw_m5 27 rfl) rfl
theorem q1116 : (Jvm.Cond.code ({ cls := "FranchiseLedger", name := "truncateInput", desc := "(I)I" } : Jvm.MethodName) prog_1_method_83_code (2 : Nat) (Option.some Jvm.ClassFile.FieldType.int)) ∈ lw_all := lw_g (lw_at lw_m5 28 rfl) rfl
theorem q1118 : (Jvm.Cond.instanceMethod ({ cls := "FranchiseLedger", name := "find", desc := "()I" } : Jvm.MethodName)) ∈ lw_all := lw_g (lw_at lw_m5 30 rfl) rfl
theorem q1119 : (Jvm.Cond.selects "FranchiseLedger" ({ cls := "FranchiseLedger", name := "find", desc := "()I" } : Jvm.MethodName) ({ cls := "FranchiseLedger", name := "find", desc := "()I" } : Jvm.MethodName)) ∈ lw_all := lw_g (lw_at lw_m5 31 rfl) rfl
theorem q1120 : (Jvm.Cond.code ({ cls := "FranchiseLedger", name := "find", desc := "()I" } : Jvm.MethodName) prog_1_method_84_code (3 : Nat) (Option.some Jvm.ClassFile.FieldType.int)) ∈ lw_all := lw_g (lw_at lw_m5 32 rfl) rfl
theorem q1121 : (Jvm.Cond.methodLink "FranchiseLedger" (445 : Nat) ({ cls := "java/lang/StringBuilder", name := "append", desc := "(C)Ljava/lang/StringBuilder;" } : Jvm.MethodName)) ∈ lw_all := lw_g (lw_at lw_m5 33 rfl) rfl
theorem q1138 : (Jvm.Cond.methodLink "FranchiseLedger" (493 : Nat) ({ cls := "FranchiseLedger$Rules", name := "named", desc := "(Ljava/lang/CharSequence;)I" } : Jvm.MethodName)) ∈ lw_all := lw_g (lw_at lw_m5 50 rfl) rfl
theorem q1325 : (Jvm.Cond.instanceMethod ({ cls := "FranchiseLedger", name := "loadJournal", desc := "()I" } : Jvm.MethodName)) ∈ lw_all := lw_g (lw_at lw_m5 237 rfl) rfl
theorem q1326 : (Jvm.Cond.selects "FranchiseLedger" ({ cls := "FranchiseLedger", name := "loadJournal", desc := "()I" } : Jvm.MethodName) ({ cls := "FranchiseLedger", name := "loadJournal", desc := "()I" } : Jvm.MethodName)) ∈ lw_all := lw_g (lw_at lw_m5 238 rfl) rfl
theorem q1327 : (Jvm.Cond.codeWith ({ cls := "FranchiseLedger", name := "loadJournal", desc := "()I" } : Jvm.MethodName) prog_1_method_86_code (3 : Nat) (Option.some Jvm.ClassFile.FieldType.int) [((9 : Nat), (21 : Nat), (24 : Nat), (498 : Nat))]) ∈ lw_all := lw_g (lw_at lw_m5 239 rfl) rfl
theorem q1328 : (Jvm.Cond.classLink "FranchiseLedger" (498 : Nat) "FranchiseLedger$TextError") ∈ lw_all := lw_g (lw_at lw_m6 0 rfl) rfl
theorem q1329 : (Jvm.Cond.classLink "FranchiseLedger" (508 : Nat) "java/util/ArrayList") ∈ lw_all := lw_g (lw_at lw_m6 1 rfl) rfl
theorem q1330 : (Jvm.Cond.methodLink "FranchiseLedger" (510 : Nat) ({ cls := "java/util/ArrayList", name := "<init>", desc := "(I)V" } : Jvm.MethodName)) ∈ lw_all := lw_g (lw_at lw_m6 2 rfl) rfl
theorem q1331 : (Jvm.Cond.classLink "FranchiseLedger" (511 : Nat) "FranchiseLedger$Reader") ∈ lw_all := lw_g (lw_at lw_m6 3 rfl) rfl
theorem q1333 : (Jvm.Cond.methodLink "FranchiseLedger" (513 : Nat) ({ cls := "FranchiseLedger$Reader", name := "<init>", desc := "(LFranchiseLedger;)V" } : Jvm.MethodName)) ∈ lw_all := lw_g (lw_at lw_m6 5 rfl) rfl
theorem q1377 : (Jvm.Cond.fieldLinkNest "FranchiseLedger" (532 : Nat) "FranchiseLedger$Reader" "made" "LFranchiseLedger$Rules;" "FranchiseLedger") ∈ lw_tbl := lw_at lw_m6 49 rfl
theorem q1379 : (Jvm.Cond.fieldLinkNest "FranchiseLedger" (535 : Nat) "FranchiseLedger$Reader" "fresh" "LFranchiseLedger$Books;" "FranchiseLedger") ∈ lw_tbl := lw_at lw_m6 51 rfl
theorem q1405 : (Jvm.Cond.methodLink "FranchiseLedger" (514 : Nat) ({ cls := "FranchiseLedger$Reader", name := "readJournal", desc := "(Ljava/util/List;)V" } : Jvm.MethodName)) ∈ lw_all := lw_g (lw_at lw_m6 77 rfl) rfl
theorem q1436 : (Jvm.Cond.fieldLinkNest "FranchiseLedger" (497 : Nat) "FranchiseLedger$TextError" "code" "I" "FranchiseLedger") ∈ lw_tbl := lw_at lw_m6 108 rfl
theorem q1438 : (Jvm.Cond.fieldLinkNest "FranchiseLedger" (505 : Nat) "FranchiseLedger$TextError" "position" "I" "FranchiseLedger") ∈ lw_tbl := lw_at lw_m6 110 rfl
theorem q1592 : (Jvm.Cond.methodLink "FranchiseLedger" (518 : Nat) ({ cls := "FranchiseLedger", name := "fail", desc := "(LFranchiseLedger$TextError;)I" } : Jvm.MethodName)) ∈ lw_all := lw_g (lw_at lw_m7 24 rfl) rfl
theorem q1593 : (Jvm.Cond.privateMethod ({ cls := "FranchiseLedger", name := "fail", desc := "(LFranchiseLedger$TextError;)I" } : Jvm.MethodName)) ∈ lw_tbl := lw_at lw_m7 25 rfl
theorem q1594 : (Jvm.Cond.instanceMethod ({ cls := "FranchiseLedger", name := "fail", desc := "(LFranchiseLedger$TextError;)I" } : Jvm.MethodName)) ∈ lw_all := lw_g (lw_at lw_m7 26 rfl) rfl
theorem q1595 : (Jvm.Cond.code ({ cls := "FranchiseLedger", name := "fail", desc := "(LFranchiseLedger$TextError;)I" } : Jvm.MethodName) prog_1_method_85_code (2 : Nat) (Option.some Jvm.ClassFile.FieldType.int)) ∈ lw_all := lw_g (lw_at lw_m7 27 rfl) rfl
theorem q1596 : (Jvm.Cond.methodLink "FranchiseLedger" (522 : Nat) ({ cls := "java/util/LinkedList", name := "clear", desc := "()V" } : Jvm.MethodName)) ∈ lw_all := lw_g (lw_at lw_m7 28 rfl) rfl
theorem q1600 : (Jvm.Cond.classLink "FranchiseLedger" (379 : Nat) "FranchiseLedger$Posting") ∈ lw_all := lw_g (lw_at lw_m7 32 rfl) rfl
theorem q1601 : (Jvm.Cond.methodLink "FranchiseLedger" (525 : Nat) ({ cls := "java/util/LinkedList", name := "addLast", desc := "(Ljava/lang/Object;)V" } : Jvm.MethodName)) ∈ lw_all := lw_g (lw_at lw_m7 33 rfl) rfl
theorem q1606 : (Jvm.Cond.instanceMethod ({ cls := "FranchiseLedger", name := "load", desc := "()I" } : Jvm.MethodName)) ∈ lw_all := lw_g (lw_at lw_m7 38 rfl) rfl
theorem q1607 : (Jvm.Cond.selects "FranchiseLedger" ({ cls := "FranchiseLedger", name := "load", desc := "()I" } : Jvm.MethodName) ({ cls := "FranchiseLedger", name := "load", desc := "()I" } : Jvm.MethodName)) ∈ lw_all := lw_g (lw_at lw_m7 39 rfl) rfl
theorem q1608 : (Jvm.Cond.codeWith ({ cls := "FranchiseLedger", name := "load", desc := "()I" } : Jvm.MethodName) prog_1_method_87_code (3 : Nat) (Option.some Jvm.ClassFile.FieldType.int) [((9 : Nat), (13 : Nat), (16 : Nat), (498 : Nat))]) ∈ lw_all := lw_g (lw_at lw_m7 40 rfl) rfl
theorem q1609 : (Jvm.Cond.methodLink "FranchiseLedger" (529 : Nat) ({ cls := "FranchiseLedger$Reader", name := "read", desc := "()V" } : Jvm.MethodName)) ∈ lw_all := lw_g (lw_at lw_m7 41 rfl) rfl
theorem q1696 : (Jvm.Cond.static ({ cls := "FranchiseLedger", name := "column", desc := "(I)I" } : Jvm.MethodName)) ∈ lw_all := lw_g (lw_at lw_m7 128 rfl) rfl
theorem q1697 : (Jvm.Cond.code ({ cls := "FranchiseLedger", name := "column", desc := "(I)I" } : Jvm.MethodName) prog_1_method_5_code (1 : Nat) (Option.some Jvm.ClassFile.FieldType.int)) ∈ lw_all := lw_g (lw_at lw_m7 129 rfl) rfl
theorem q1700 : (Jvm.Cond.static ({ cls := "FranchiseLedger", name := "row", desc := "(I)I" } : Jvm.MethodName)) ∈ lw_all := lw_g (lw_at lw_m7 132 rfl) rfl
theorem q1701 : (Jvm.Cond.code ({ cls := "FranchiseLedger", name := "row", desc := "(I)I" } : Jvm.MethodName) prog_1_method_6_code (1 : Nat) (Option.some Jvm.ClassFile.FieldType.int)) ∈ lw_all := lw_g (lw_at lw_m7 133 rfl) rfl
theorem q1707 : (Jvm.Cond.static ({ cls := "FranchiseLedger", name := "cell", desc := "(II)I" } : Jvm.MethodName)) ∈ lw_all := lw_g (lw_at lw_m7 139 rfl) rfl
theorem q1708 : (Jvm.Cond.code ({ cls := "FranchiseLedger", name := "cell", desc := "(II)I" } : Jvm.MethodName) prog_1_method_4_code (2 : Nat) (Option.some Jvm.ClassFile.FieldType.int)) ∈ lw_all := lw_g (lw_at lw_m7 140 rfl) rfl
theorem q1733 : (Jvm.Cond.instanceMethod ({ cls := "FranchiseLedger", name := "errorCode", desc := "()I" } : Jvm.MethodName)) ∈ lw_all := lw_g (lw_at lw_m7 165 rfl) rfl
theorem q1734 : (Jvm.Cond.selects "FranchiseLedger" ({ cls := "FranchiseLedger", name := "errorCode", desc := "()I" } : Jvm.MethodName) ({ cls := "FranchiseLedger", name := "errorCode", desc := "()I" } : Jvm.MethodName)) ∈ lw_all := lw_g (lw_at lw_m7 166 rfl) rfl
theorem q1735 : (Jvm.Cond.code ({ cls := "FranchiseLedger", name := "errorCode", desc := "()I" } : Jvm.MethodName) prog_1_method_88_code (1 : Nat) (Option.some Jvm.ClassFile.FieldType.int)) ∈ lw_all := lw_g (lw_at lw_m7 167 rfl) rfl
theorem q1737 : (Jvm.Cond.instanceMethod ({ cls := "FranchiseLedger", name := "errorPosition", desc := "()I" } : Jvm.MethodName)) ∈ lw_all := lw_g (lw_at lw_m7 169 rfl) rfl
theorem q1738 : (Jvm.Cond.selects "FranchiseLedger" ({ cls := "FranchiseLedger", name := "errorPosition", desc := "()I" } : Jvm.MethodName) ({ cls := "FranchiseLedger", name := "errorPosition", desc := "()I" } : Jvm.MethodName)) ∈ lw_all := lw_g (lw_at lw_m7 170 rfl) rfl
theorem q1739 : (Jvm.Cond.code ({ cls := "FranchiseLedger", name := "errorPosition", desc := "()I" } : Jvm.MethodName) prog_1_method_89_code (1 : Nat) (Option.some Jvm.ClassFile.FieldType.int)) ∈ lw_all := lw_g (lw_at lw_m7 171 rfl) rfl
theorem q1745 : (Jvm.Cond.instanceMethod ({ cls := "FranchiseLedger", name := "runJournal", desc := "(I)I" } : Jvm.MethodName)) ∈ lw_all := lw_g (lw_at lw_m7 177 rfl) rfl
theorem q1746 : (Jvm.Cond.selects "FranchiseLedger" ({ cls := "FranchiseLedger", name := "runJournal", desc := "(I)I" } : Jvm.MethodName) ({ cls := "FranchiseLedger", name := "runJournal", desc := "(I)I" } : Jvm.MethodName)) ∈ lw_all := lw_g (lw_at lw_m7 178 rfl) rfl
theorem q1747 : (Jvm.Cond.code ({ cls := "FranchiseLedger", name := "runJournal", desc := "(I)I" } : Jvm.MethodName) prog_1_method_74_code (4 : Nat) (Option.some Jvm.ClassFile.FieldType.int)) ∈ lw_all := lw_g (lw_at lw_m7 179 rfl) rfl
theorem q1748 : (Jvm.Cond.constantLong "FranchiseLedger" (426 : Nat) (40 : Int64)) ∈ lw_all := lw_g (lw_at lw_m7 180 rfl) rfl
theorem q1749 : (Jvm.Cond.methodLink "FranchiseLedger" (168 : Nat) ({ cls := "FranchiseLedger", name := "requireArguments", desc := "([Z)V" } : Jvm.MethodName)) ∈ lw_all := lw_g (lw_at lw_m7 181 rfl) rfl
theorem q1750 : (Jvm.Cond.static ({ cls := "FranchiseLedger", name := "requireArguments", desc := "([Z)V" } : Jvm.MethodName)) ∈ lw_all := lw_g (lw_at lw_m7 182 rfl) rfl
theorem q1751 : (Jvm.Cond.code ({ cls := "FranchiseLedger", name := "requireArguments", desc := "([Z)V" } : Jvm.MethodName) prog_1_method_3_code (5 : Nat) (Option.none : Option Jvm.ClassFile.FieldType)) ∈ lw_all := lw_g (lw_at lw_m7 183 rfl) rfl
theorem q1752 : (Jvm.Cond.classLink "FranchiseLedger" (9 : Nat) "java/lang/IllegalArgumentException") ∈ lw_all := lw_g (lw_at lw_m7 184 rfl) rfl
theorem q1753 : (Jvm.Cond.methodLink "FranchiseLedger" (11 : Nat) ({ cls := "java/lang/IllegalArgumentException", name := "<init>", desc := "()V" } : Jvm.MethodName)) ∈ lw_all := lw_g (lw_at lw_m7 185 rfl) rfl
theorem q1763 : (Jvm.Cond.methodLink "FranchiseLedger" (428 : Nat) ({ cls := "java/util/LinkedList", name := "isEmpty", desc := "()Z" } : Jvm.MethodName)) ∈ lw_all := lw_g (lw_at lw_m7 195 rfl) rfl
theorem q1774 : (Jvm.Cond.methodLink "FranchiseLedger" (431 : Nat) ({ cls := "java/util/LinkedList", name := "removeFirst", desc := "()Ljava/lang/Object;" } : Jvm.MethodName)) ∈ lw_all := lw_g (lw_at lw_m7 206 rfl) rfl
theorem q1782 : (Jvm.Cond.methodLink "FranchiseLedger" (435 : Nat) ({ cls := "FranchiseLedger", name := "succeeds", desc := "(LFranchiseLedger$Posting;)Z" } : Jvm.MethodName)) ∈ lw_all := lw_g (lw_at lw_m7 214 rfl) rfl
theorem q1783 : (Jvm.Cond.privateMethod ({ cls := "FranchiseLedger", name := "succeeds", desc := "(LFranchiseLedger$Posting;)Z" } : Jvm.MethodName)) ∈ lw_tbl := lw_at lw_m7 215 rfl
theorem q1784 : (Jvm.Cond.instanceMethod ({ cls := "FranchiseLedger", name := "succeeds", desc := "(LFranchiseLedger$Posting;)Z" } : Jvm.MethodName)) ∈ lw_all := lw_g (lw_at lw_m7 216 rfl) rfl
theorem q1785 : (Jvm.Cond.codeWith ({ cls := "FranchiseLedger", name := "succeeds", desc := "(LFranchiseLedger$Posting;)Z" } : Jvm.MethodName) prog_1_method_73_code (3 : Nat) (Option.some Jvm.ClassFile.FieldType.boolean) [((0 : Nat), (5 : Nat), (6 : Nat), (3 : Nat)), ((0 : Nat), (5 : Nat), (6 : Nat), (9 : Nat)), ((0 : Nat), (5 : Nat), (6 : Nat), (114 : Nat))]) ∈ lw_all := lw_g (lw_at lw_m7 217 rfl) rfl
theorem q1786 : (Jvm.Cond.classLink "FranchiseLedger" (3 : Nat) "java/lang/IndexOutOfBoundsException") ∈ lw_all := lw_g (lw_at lw_m7 218 rfl) rfl
theorem q1802 : (Jvm.Cond.classLink "FranchiseLedger" (114 : Nat) "java/lang/IllegalStateException") ∈ lw_all := lw_g (lw_at lw_m7 234 rfl) rfl
theorem q1803 : (Jvm.Cond.methodLink "FranchiseLedger" (422 : Nat) ({ cls := "FranchiseLedger", name := "isPosted", desc := "(LFranchiseLedger$Posting;)Z" } : Jvm.MethodName)) ∈ lw_all := lw_g (lw_at lw_m7 235 rfl) rfl
theorem q1804 : (Jvm.Cond.privateMethod ({ cls := "FranchiseLedger", name := "isPosted", desc := "(LFranchiseLedger$Posting;)Z" } : Jvm.MethodName)) ∈ lw_tbl := lw_at lw_m7 236 rfl
theorem q1805 : (Jvm.Cond.instanceMethod ({ cls := "FranchiseLedger", name := "isPosted", desc := "(LFranchiseLedger$Posting;)Z" } : Jvm.MethodName)) ∈ lw_all := lw_g (lw_at lw_m7 237 rfl) rfl
theorem q1806 : (Jvm.Cond.code ({ cls := "FranchiseLedger", name := "isPosted", desc := "(LFranchiseLedger$Posting;)Z" } : Jvm.MethodName) prog_1_method_72_code (2 : Nat) (Option.some Jvm.ClassFile.FieldType.boolean)) ∈ lw_all := lw_g (lw_at lw_m7 238 rfl) rfl
theorem q1807 : (Jvm.Cond.methodLink "FranchiseLedger" (378 : Nat) ({ cls := "FranchiseLedger$Posting", name := "kind", desc := "()I" } : Jvm.MethodName)) ∈ lw_all := lw_g (lw_at lw_m7 239 rfl) rfl
theorem q1811 : (Jvm.Cond.methodLink "FranchiseLedger" (383 : Nat) ({ cls := "FranchiseLedger$Posting", name := "subject", desc := "()I" } : Jvm.MethodName)) ∈ lw_all := lw_g (lw_at lw_m8 3 rfl) rfl
theorem q1815 : (Jvm.Cond.methodLink "FranchiseLedger" (386 : Nat) ({ cls := "FranchiseLedger$Posting", name := "amount", desc := "()J" } : Jvm.MethodName)) ∈ lw_all := lw_g (lw_at lw_m8 7 rfl) rfl
theorem q1819 : (Jvm.Cond.methodLink "FranchiseLedger" (389 : Nat) ({ cls := "FranchiseLedger", name := "reportSales", desc := "(IJ)J" } : Jvm.MethodName)) ∈ lw_all := lw_g (lw_at lw_m8 11 rfl) rfl
theorem q1820 : (Jvm.Cond.instanceMethod ({ cls := "FranchiseLedger", name := "reportSales", desc := "(IJ)J" } : Jvm.MethodName)) ∈ lw_all := lw_g (lw_at lw_m8 12 rfl) rfl
theorem q1821 : (Jvm.Cond.selects "FranchiseLedger" ({ cls := "FranchiseLedger", name := "reportSales", desc := "(IJ)J" } : Jvm.MethodName) ({ cls := "FranchiseLedger", name := "reportSales", desc := "(IJ)J" } : Jvm.MethodName)) ∈ lw_all := lw_g (lw_at lw_m8 13 rfl) rfl
theorem q1822 : (Jvm.Cond.code ({ cls := "FranchiseLedger", name := "reportSales", desc := "(IJ)J" } : Jvm.MethodName) prog_1_method_48_code (7 : Nat) (Option.some Jvm.ClassFile.FieldType.long)) ∈ lw_all := lw_g (lw_at lw_m8 14 rfl) rfl
theorem q1823 : (Jvm.Cond.methodLink "FranchiseLedger" (121 : Nat) ({ cls := "FranchiseLedger", name := "outlet", desc := "(I)LFranchiseLedger$Outlet;" } : Jvm.MethodName)) ∈ lw_all := lw_g (lw_at lw_m8 15 rfl) rfl
theorem q1824 : (Jvm.Cond.privateMethod ({ cls := "FranchiseLedger", name := "outlet", desc := "(I)LFranchiseLedger$Outlet;" } : Jvm.MethodName)) ∈ lw_tbl := lw_at lw_m8 16 rfl
theorem q1825 : (Jvm.Cond.instanceMethod ({ cls := "FranchiseLedger", name := "outlet", desc := "(I)LFranchiseLedger$Outlet;" } : Jvm.MethodName)) ∈ lw_all := lw_g (lw_at lw_m8 17 rfl) rfl
theorem q1826 : (Jvm.Cond.code ({ cls := "FranchiseLedger", name := "outlet", desc := "(I)LFranchiseLedger$Outlet;" } : Jvm.MethodName) prog_1_method_11_code (2 : Nat) (Option.some (Jvm.ClassFile.FieldType.object "FranchiseLedger$Outlet"))) ∈ lw_all := lw_g (lw_at lw_m8 18 rfl) rfl
theorem q1827 : (Jvm.Cond.methodLink "FranchiseLedger" (92 : Nat) ({ cls := "FranchiseLedger", name := "requireIndex", desc := "([Z)V" } : Jvm.MethodName)) ∈ lw_all := lw_g (lw_at lw_m8 19 rfl) rfl
theorem q1828 : (Jvm.Cond.static ({ cls := "FranchiseLedger", name := "requireIndex", desc := "([Z)V" } : Jvm.MethodName)) ∈ lw_all := lw_g (lw_at lw_m8 20 rfl) rfl
theorem q1829 : (Jvm.Cond.code ({ cls := "FranchiseLedger", name := "requireIndex", desc := "([Z)V" } : Jvm.MethodName) prog_1_method_2_code (5 : Nat) (Option.none : Option Jvm.ClassFile.FieldType)) ∈ lw_all := lw_g (lw_at lw_m8 21 rfl) rfl
theorem q1830 : (Jvm.Cond.methodLink "FranchiseLedger" (5 : Nat) ({ cls := "java/lang/IndexOutOfBoundsException", name := "<init>", desc := "()V" } : Jvm.MethodName)) ∈ lw_all := lw_g (lw_at lw_m8 22 rfl) rfl
theorem q1834 : (Jvm.Cond.classLink "FranchiseLedger" (105 : Nat) "FranchiseLedger$Outlet") ∈ lw_all := lw_g (lw_at lw_m8 26 rfl) rfl
theorem q1835 : (Jvm.Cond.constantLong "FranchiseLedger" (262 : Nat) (10000000 : Int64)) ∈ lw_all := lw_g (lw_at lw_m8 27 rfl) rfl
theorem q1836 : (Jvm.Cond.methodLink "FranchiseLedger" (264 : Nat) ({ cls := "FranchiseLedger", name := "requireMonth", desc := "()V" } : Jvm.MethodName)) ∈ lw_all := lw_g (lw_at lw_m8 28 rfl) rfl
theorem q1837 : (Jvm.Cond.privateMethod ({ cls := "FranchiseLedger", name := "requireMonth", desc := "()V" } : Jvm.MethodName)) ∈ lw_tbl := lw_at lw_m8 29 rfl
theorem q1838 : (Jvm.Cond.instanceMethod ({ cls := "FranchiseLedger", name := "requireMonth", desc := "()V" } : Jvm.MethodName)) ∈ lw_all := lw_g (lw_at lw_m8 30 rfl) rfl
theorem q1839 : (Jvm.Cond.code ({ cls := "FranchiseLedger", name := "requireMonth", desc := "()V" } : Jvm.MethodName) prog_1_method_15_code (1 : Nat) (Option.none : Option Jvm.ClassFile.FieldType)) ∈ lw_all := lw_g (lw_at lw_m8 31 rfl) rfl
theorem q1848 : (Jvm.Cond.methodLink "FranchiseLedger" (116 : Nat) ({ cls := "java/lang/IllegalStateException", name := "<init>", desc := "()V" } : Jvm.MethodName)) ∈ lw_all := lw_g (lw_at lw_m8 40 rfl) rfl
theorem q1854 : (Jvm.Cond.methodLink "FranchiseLedger" (267 : Nat) ({ cls := "FranchiseLedger$Outlet", name := "isOpen", desc := "()Z" } : Jvm.MethodName)) ∈ lw_all := lw_g (lw_at lw_m8 46 rfl) rfl
theorem q1855 : (Jvm.Cond.constantLong "FranchiseLedger" (270 : Nat) (-1 : Int64)) ∈ lw_all := lw_g (lw_at lw_m8 47 rfl) rfl
theorem q1856 : (Jvm.Cond.methodLink "FranchiseLedger" (393 : Nat) ({ cls := "FranchiseLedger$Posting", name := "x", desc := "()I" } : Jvm.MethodName)) ∈ lw_all := lw_g (lw_at lw_m8 48 rfl) rfl
theorem q1860 : (Jvm.Cond.methodLink "FranchiseLedger" (396 : Nat) ({ cls := "FranchiseLedger$Posting", name := "y", desc := "()I" } : Jvm.MethodName)) ∈ lw_all := lw_g (lw_at lw_m8 52 rfl) rfl
theorem q1864 : (Jvm.Cond.methodLink "FranchiseLedger" (399 : Nat) ({ cls := "FranchiseLedger", name := "deliver", desc := "(IIIJ)J" } : Jvm.MethodName)) ∈ lw_all := lw_g (lw_at lw_m8 56 rfl) rfl
theorem q1865 : (Jvm.Cond.instanceMethod ({ cls := "FranchiseLedger", name := "deliver", desc := "(IIIJ)J" } : Jvm.MethodName)) ∈ lw_all := lw_g (lw_at lw_m8 57 rfl) rfl
theorem q1866 : (Jvm.Cond.selects "FranchiseLedger" ({ cls := "FranchiseLedger", name := "deliver", desc := "(IIIJ)J" } : Jvm.MethodName) ({ cls := "FranchiseLedger", name := "deliver", desc := "(IIIJ)J" } : Jvm.MethodName)) ∈ lw_all := lw_g (lw_at lw_m8 58 rfl) rfl
theorem q1867 : (Jvm.Cond.code ({ cls := "FranchiseLedger", name := "deliver", desc := "(IIIJ)J" } : Jvm.MethodName) prog_1_method_49_code (8 : Nat) (Option.some Jvm.ClassFile.FieldType.long)) ∈ lw_all := lw_g (lw_at lw_m8 59 rfl) rfl
theorem q1868 : (Jvm.Cond.methodLink "FranchiseLedger" (164 : Nat) ({ cls := "FranchiseLedger", name := "isPlace", desc := "(II)Z" } : Jvm.MethodName)) ∈ lw_all := lw_g (lw_at lw_m8 60 rfl) rfl
theorem q1869 : (Jvm.Cond.static ({ cls := "FranchiseLedger", name := "isPlace", desc := "(II)Z" } : Jvm.MethodName)) ∈ lw_all := lw_g (lw_at lw_m8 61 rfl) rfl
theorem q1870 : (Jvm.Cond.code ({ cls := "FranchiseLedger", name := "isPlace", desc := "(II)Z" } : Jvm.MethodName) prog_1_method_12_code (2 : Nat) (Option.some Jvm.ClassFile.FieldType.boolean)) ∈ lw_all := lw_g (lw_at lw_m8 62 rfl) rfl
theorem q1871 : (Jvm.Cond.constantLong "FranchiseLedger" (107 : Nat) (29 : Int64)) ∈ lw_all := lw_g (lw_at lw_m8 63 rfl) rfl
theorem q1872 : (Jvm.Cond.constantLong "FranchiseLedger" (274 : Nat) (-3 : Int64)) ∈ lw_all := lw_g (lw_at lw_m8 64 rfl) rfl
theorem q1873 : (Jvm.Cond.methodLink "FranchiseLedger" (180 : Nat) ({ cls := "FranchiseLedger", name := "cell", desc := "(II)I" } : Jvm.MethodName)) ∈ lw_all := lw_g (lw_at lw_m8 65 rfl) rfl
theorem q1874 : (Jvm.Cond.methodLink "FranchiseLedger" (134 : Nat) ({ cls := "FranchiseLedger", name := "franchisee", desc := "(I)LFranchiseLedger$Franchisee;" } : Jvm.MethodName)) ∈ lw_all := lw_g (lw_at lw_m8 66 rfl) rfl
theorem q1875 : (Jvm.Cond.privateMethod ({ cls := "FranchiseLedger", name := "franchisee", desc := "(I)LFranchiseLedger$Franchisee;" } : Jvm.MethodName)) ∈ lw_tbl := lw_at lw_m8 67 rfl
theorem q1876 : (Jvm.Cond.instanceMethod ({ cls := "FranchiseLedger", name := "franchisee", desc := "(I)LFranchiseLedger$Franchisee;" } : Jvm.MethodName)) ∈ lw_all := lw_g (lw_at lw_m8 68 rfl) rfl
theorem q1877 : (Jvm.Cond.code ({ cls := "FranchiseLedger", name := "franchisee", desc := "(I)LFranchiseLedger$Franchisee;" } : Jvm.MethodName) prog_1_method_10_code (2 : Nat) (Option.some (Jvm.ClassFile.FieldType.object "FranchiseLedger$Franchisee"))) ∈ lw_all := lw_g (lw_at lw_m8 69 rfl) rfl
theorem q1878 : (Jvm.Cond.methodLink "FranchiseLedger" (88 : Nat) ({ cls := "FranchiseLedger", name := "isFranchisee", desc := "(I)Z" } : Jvm.MethodName)) ∈ lw_all := lw_g (lw_at lw_m8 70 rfl) rfl
theorem q1879 : (Jvm.Cond.privateMethod ({ cls := "FranchiseLedger", name := "isFranchisee", desc := "(I)Z" } : Jvm.MethodName)) ∈ lw_tbl := lw_at lw_m8 71 rfl
theorem q1880 : (Jvm.Cond.instanceMethod ({ cls := "FranchiseLedger", name := "isFranchisee", desc := "(I)Z" } : Jvm.MethodName)) ∈ lw_all := lw_g (lw_at lw_m8 72 rfl) rfl
theorem q1881 : (Jvm.Cond.code ({ cls := "FranchiseLedger", name := "isFranchisee", desc := "(I)Z" } : Jvm.MethodName) prog_1_method_9_code (2 : Nat) (Option.some Jvm.ClassFile.FieldType.boolean)) ∈ lw_all := lw_g (lw_at lw_m8 73 rfl) rfl
theorem q1882 : (Jvm.Cond.methodLink "FranchiseLedger" (208 : Nat) ({ cls := "FranchiseLedger$Franchisee", name := "isActive", desc := "()Z" } : Jvm.MethodName)) ∈ lw_all := lw_g (lw_at lw_m8 74 rfl) rfl
theorem q1886 : (Jvm.Cond.methodLink "FranchiseLedger" (403 : Nat) ({ cls := "FranchiseLedger", name := "pay", desc := "(IJ)J" } : Jvm.MethodName)) ∈ lw_all := lw_g (lw_at lw_m8 78 rfl) rfl
theorem q1887 : (Jvm.Cond.instanceMethod ({ cls := "FranchiseLedger", name := "pay", desc := "(IJ)J" } : Jvm.MethodName)) ∈ lw_all := lw_g (lw_at lw_m8 79 rfl) rfl
theorem q1888 : (Jvm.Cond.selects "FranchiseLedger" ({ cls := "FranchiseLedger", name := "pay", desc := "(IJ)J" } : Jvm.MethodName) ({ cls := "FranchiseLedger", name := "pay", desc := "(IJ)J" } : Jvm.MethodName)) ∈ lw_all := lw_g (lw_at lw_m8 80 rfl) rfl
theorem q1889 : (Jvm.Cond.code ({ cls := "FranchiseLedger", name := "pay", desc := "(IJ)J" } : Jvm.MethodName) prog_1_method_58_code (5 : Nat) (Option.some Jvm.ClassFile.FieldType.long)) ∈ lw_all := lw_g (lw_at lw_m8 81 rfl) rfl
theorem q1890 : (Jvm.Cond.methodLink "FranchiseLedger" (311 : Nat) ({ cls := "FranchiseLedger", name := "isAmount", desc := "(J)Z" } : Jvm.MethodName)) ∈ lw_all := lw_g (lw_at lw_m8 82 rfl) rfl
theorem q1891 : (Jvm.Cond.static ({ cls := "FranchiseLedger", name := "isAmount", desc := "(J)Z" } : Jvm.MethodName)) ∈ lw_all := lw_g (lw_at lw_m8 83 rfl) rfl
theorem q1892 : (Jvm.Cond.code ({ cls := "FranchiseLedger", name := "isAmount", desc := "(J)Z" } : Jvm.MethodName) prog_1_method_13_code (2 : Nat) (Option.some Jvm.ClassFile.FieldType.boolean)) ∈ lw_all := lw_g (lw_at lw_m8 84 rfl) rfl
theorem q1893 : (Jvm.Cond.constantLong "FranchiseLedger" (109 : Nat) (1000000000 : Int64)) ∈ lw_all := lw_g (lw_at lw_m8 85 rfl) rfl
theorem q1894 : (Jvm.Cond.constantLong "FranchiseLedger" (408 : Nat) (9223372036854775807 : Int64)) ∈ lw_all := lw_g (lw_at lw_m8 86 rfl) rfl
theorem q1895 : (Jvm.Cond.methodLink "FranchiseLedger" (410 : Nat) ({ cls := "FranchiseLedger", name := "grant", desc := "(IJ)Z" } : Jvm.MethodName)) ∈ lw_all := lw_g (lw_at lw_m8 87 rfl) rfl
theorem q1896 : (Jvm.Cond.instanceMethod ({ cls := "FranchiseLedger", name := "grant", desc := "(IJ)Z" } : Jvm.MethodName)) ∈ lw_all := lw_g (lw_at lw_m8 88 rfl) rfl
theorem q1897 : (Jvm.Cond.selects "FranchiseLedger" ({ cls := "FranchiseLedger", name := "grant", desc := "(IJ)Z" } : Jvm.MethodName) ({ cls := "FranchiseLedger", name := "grant", desc := "(IJ)Z" } : Jvm.MethodName)) ∈ lw_all := lw_g (lw_at lw_m8 89 rfl) rfl
theorem q1898 : (Jvm.Cond.code ({ cls := "FranchiseLedger", name := "grant", desc := "(IJ)Z" } : Jvm.MethodName) prog_1_method_64_code (5 : Nat) (Option.some Jvm.ClassFile.FieldType.boolean)) ∈ lw_all := lw_g (lw_at lw_m8 90 rfl) rfl
theorem q1899 : (Jvm.Cond.methodLink "FranchiseLedger" (160 : Nat) ({ cls := "FranchiseLedger$Franchisee", name := "allowance", desc := "()J" } : Jvm.MethodName)) ∈ lw_all := lw_g (lw_at lw_m8 91 rfl) rfl
theorem q1904 : (Jvm.Cond.methodLink "FranchiseLedger" (414 : Nat) ({ cls := "FranchiseLedger", name := "campaign", desc := "(J)Z" } : Jvm.MethodName)) ∈ lw_all := lw_g (lw_at lw_m8 96 rfl) rfl
theorem q1905 : (Jvm.Cond.instanceMethod ({ cls := "FranchiseLedger", name := "campaign", desc := "(J)Z" } : Jvm.MethodName)) ∈ lw_all := lw_g (lw_at lw_m8 97 rfl) rfl
theorem q1906 : (Jvm.Cond.selects "FranchiseLedger" ({ cls := "FranchiseLedger", name := "campaign", desc := "(J)Z" } : Jvm.MethodName) ({ cls := "FranchiseLedger", name := "campaign", desc := "(J)Z" } : Jvm.MethodName)) ∈ lw_all := lw_g (lw_at lw_m8 98 rfl) rfl
theorem q1907 : (Jvm.Cond.code ({ cls := "FranchiseLedger", name := "campaign", desc := "(J)Z" } : Jvm.MethodName) prog_1_method_63_code (3 : Nat) (Option.some Jvm.ClassFile.FieldType.boolean)) ∈ lw_all := lw_g (lw_at lw_m8 99 rfl) rfl
theorem q1908 : (Jvm.Cond.methodLink "FranchiseLedger" (417 : Nat) ({ cls := "FranchiseLedger", name := "vote", desc := "(IIZ)I" } : Jvm.MethodName)) ∈ lw_all := lw_g (lw_at lw_m8 100 rfl) rfl
theorem q1909 : (Jvm.Cond.instanceMethod ({ cls := "FranchiseLedger", name := "vote", desc := "(IIZ)I" } : Jvm.MethodName)) ∈ lw_all := lw_g (lw_at lw_m8 101 rfl) rfl
theorem q1910 : (Jvm.Cond.selects "FranchiseLedger" ({ cls := "FranchiseLedger", name := "vote", desc := "(IIZ)I" } : Jvm.MethodName) ({ cls := "FranchiseLedger", name := "vote", desc := "(IIZ)I" } : Jvm.MethodName)) ∈ lw_all := lw_g (lw_at lw_m8 102 rfl) rfl
theorem q1911 : (Jvm.Cond.code ({ cls := "FranchiseLedger", name := "vote", desc := "(IIZ)I" } : Jvm.MethodName) prog_1_method_67_code (5 : Nat) (Option.some Jvm.ClassFile.FieldType.int)) ∈ lw_all := lw_g (lw_at lw_m8 103 rfl) rfl
theorem q1912 : (Jvm.Cond.constantLong "FranchiseLedger" (357 : Nat) (4 : Int64)) ∈ lw_all := lw_g (lw_at lw_m8 104 rfl) rfl
theorem q1913 : (Jvm.Cond.methodLink "FranchiseLedger" (365 : Nat) ({ cls := "FranchiseLedger$Transfer", name := "vote", desc := "(IZ)I" } : Jvm.MethodName)) ∈ lw_all := lw_g (lw_at lw_m8 105 rfl) rfl
theorem q1917 : (Jvm.Cond.methodLink "FranchiseLedger" (419 : Nat) ({ cls := "FranchiseLedger", name := "closeMonth", desc := "()I" } : Jvm.MethodName)) ∈ lw_all := lw_g (lw_at lw_m8 109 rfl) rfl
theorem q1918 : (Jvm.Cond.instanceMethod ({ cls := "FranchiseLedger", name := "closeMonth", desc := "()I" } : Jvm.MethodName)) ∈ lw_all := lw_g (lw_at lw_m8 110 rfl) rfl
theorem q1919 : (Jvm.Cond.selects "FranchiseLedger" ({ cls := "FranchiseLedger", name := "closeMonth", desc := "()I" } : Jvm.MethodName) ({ cls := "FranchiseLedger", name := "closeMonth", desc := "()I" } : Jvm.MethodName)) ∈ lw_all := lw_g (lw_at lw_m8 111 rfl) rfl
theorem q1920 : (Jvm.Cond.code ({ cls := "FranchiseLedger", name := "closeMonth", desc := "()I" } : Jvm.MethodName) prog_1_method_54_code (1 : Nat) (Option.some Jvm.ClassFile.FieldType.int)) ∈ lw_all := lw_g (lw_at lw_m8 112 rfl) rfl
theorem q1921 : (Jvm.Cond.methodLink "FranchiseLedger" (293 : Nat) ({ cls := "FranchiseLedger$Books", name := "close", desc := "()V" } : Jvm.MethodName)) ∈ lw_all := lw_g (lw_at lw_m8 113 rfl) rfl
theorem q2008 : (Jvm.Cond.instanceMethod ({ cls := "FranchiseLedger", name := "owner", desc := "(II)I" } : Jvm.MethodName)) ∈ lw_all := lw_g (lw_at lw_m8 200 rfl) rfl
theorem q2009 : (Jvm.Cond.selects "FranchiseLedger" ({ cls := "FranchiseLedger", name := "owner", desc := "(II)I" } : Jvm.MethodName) ({ cls := "FranchiseLedger", name := "owner", desc := "(II)I" } : Jvm.MethodName)) ∈ lw_all := lw_g (lw_at lw_m8 201 rfl) rfl
theorem q2010 : (Jvm.Cond.code ({ cls := "FranchiseLedger", name := "owner", desc := "(II)I" } : Jvm.MethodName) prog_1_method_29_code (3 : Nat) (Option.some Jvm.ClassFile.FieldType.int)) ∈ lw_all := lw_g (lw_at lw_m8 202 rfl) rfl
theorem q2016 : (Jvm.Cond.instanceMethod ({ cls := "FranchiseLedger", name := "area", desc := "(I)I" } : Jvm.MethodName)) ∈ lw_all := lw_g (lw_at lw_m8 208 rfl) rfl
theorem q2017 : (Jvm.Cond.selects "FranchiseLedger" ({ cls := "FranchiseLedger", name := "area", desc := "(I)I" } : Jvm.MethodName) ({ cls := "FranchiseLedger", name := "area", desc := "(I)I" } : Jvm.MethodName)) ∈ lw_all := lw_g (lw_at lw_m8 209 rfl) rfl
theorem q2018 : (Jvm.Cond.code ({ cls := "FranchiseLedger", name := "area", desc := "(I)I" } : Jvm.MethodName) prog_1_method_30_code (2 : Nat) (Option.some Jvm.ClassFile.FieldType.int)) ∈ lw_all := lw_g (lw_at lw_m8 210 rfl) rfl
theorem q2019 : (Jvm.Cond.methodLink "FranchiseLedger" (183 : Nat) ({ cls := "FranchiseLedger$Grid", name := "area", desc := "(I)I" } : Jvm.MethodName)) ∈ lw_all := lw_g (lw_at lw_m8 211 rfl) rfl
theorem q2027 : (Jvm.Cond.instanceMethod ({ cls := "FranchiseLedger", name := "perimeter", desc := "(I)I" } : Jvm.MethodName)) ∈ lw_all := lw_g (lw_at lw_m8 219 rfl) rfl
theorem q2028 : (Jvm.Cond.selects "FranchiseLedger" ({ cls := "FranchiseLedger", name := "perimeter", desc := "(I)I" } : Jvm.MethodName) ({ cls := "FranchiseLedger", name := "perimeter", desc := "(I)I" } : Jvm.MethodName)) ∈ lw_all := lw_g (lw_at lw_m8 220 rfl) rfl
theorem q2029 : (Jvm.Cond.code ({ cls := "FranchiseLedger", name := "perimeter", desc := "(I)I" } : Jvm.MethodName) prog_1_method_31_code (2 : Nat) (Option.some Jvm.ClassFile.FieldType.int)) ∈ lw_all := lw_g (lw_at lw_m8 221 rfl) rfl
theorem q2030 : (Jvm.Cond.methodLink "FranchiseLedger" (186 : Nat) ({ cls := "FranchiseLedger$Grid", name := "perimeter", desc := "(I)I" } : Jvm.MethodName)) ∈ lw_all := lw_g (lw_at lw_m8 222 rfl) rfl
theorem q2046 : (Jvm.Cond.instanceMethod ({ cls := "FranchiseLedger", name := "border", desc := "(II)I" } : Jvm.MethodName)) ∈ lw_all := lw_g (lw_at lw_m8 238 rfl) rfl
theorem q2047 : (Jvm.Cond.selects "FranchiseLedger" ({ cls := "FranchiseLedger", name := "border", desc := "(II)I" } : Jvm.MethodName) ({ cls := "FranchiseLedger", name := "border", desc := "(II)I" } : Jvm.MethodName)) ∈ lw_all := lw_g (lw_at lw_m8 239 rfl) rfl
theorem q2048 : (Jvm.Cond.code ({ cls := "FranchiseLedger", name := "border", desc := "(II)I" } : Jvm.MethodName) prog_1_method_32_code (3 : Nat) (Option.some Jvm.ClassFile.FieldType.int)) ∈ lw_all := lw_g (lw_at lw_m9 0 rfl) rfl
theorem q2049 : (Jvm.Cond.methodLink "FranchiseLedger" (189 : Nat) ({ cls := "FranchiseLedger$Grid", name := "border", desc := "(II)I" } : Jvm.MethodName)) ∈ lw_all := lw_g (lw_at lw_m9 1 rfl) rfl
theorem q2057 : (Jvm.Cond.instanceMethod ({ cls := "FranchiseLedger", name := "isConnected", desc := "(I)Z" } : Jvm.MethodName)) ∈ lw_all := lw_g (lw_at lw_m9 9 rfl) rfl
theorem q2058 : (Jvm.Cond.selects "FranchiseLedger" ({ cls := "FranchiseLedger", name := "isConnected", desc := "(I)Z" } : Jvm.MethodName) ({ cls := "FranchiseLedger", name := "isConnected", desc := "(I)Z" } : Jvm.MethodName)) ∈ lw_all := lw_g (lw_at lw_m9 10 rfl) rfl
theorem q2059 : (Jvm.Cond.code ({ cls := "FranchiseLedger", name := "isConnected", desc := "(I)Z" } : Jvm.MethodName) prog_1_method_33_code (2 : Nat) (Option.some Jvm.ClassFile.FieldType.boolean)) ∈ lw_all := lw_g (lw_at lw_m9 11 rfl) rfl
theorem q2060 : (Jvm.Cond.methodLink "FranchiseLedger" (192 : Nat) ({ cls := "FranchiseLedger$Grid", name := "isConnected", desc := "(I)Z" } : Jvm.MethodName)) ∈ lw_all := lw_g (lw_at lw_m9 12 rfl) rfl
theorem q2073 : (Jvm.Cond.instanceMethod ({ cls := "FranchiseLedger", name := "distance", desc := "(III)I" } : Jvm.MethodName)) ∈ lw_all := lw_g (lw_at lw_m9 25 rfl) rfl
theorem q2074 : (Jvm.Cond.selects "FranchiseLedger" ({ cls := "FranchiseLedger", name := "distance", desc := "(III)I" } : Jvm.MethodName) ({ cls := "FranchiseLedger", name := "distance", desc := "(III)I" } : Jvm.MethodName)) ∈ lw_all := lw_g (lw_at lw_m9 26 rfl) rfl
theorem q2075 : (Jvm.Cond.code ({ cls := "FranchiseLedger", name := "distance", desc := "(III)I" } : Jvm.MethodName) prog_1_method_34_code (4 : Nat) (Option.some Jvm.ClassFile.FieldType.int)) ∈ lw_all := lw_g (lw_at lw_m9 27 rfl) rfl
theorem q2076 : (Jvm.Cond.methodLink "FranchiseLedger" (195 : Nat) ({ cls := "FranchiseLedger$Grid", name := "distanceTo", desc := "(II)I" } : Jvm.MethodName)) ∈ lw_all := lw_g (lw_at lw_m9 28 rfl) rfl
theorem q2081 : (Jvm.Cond.static ({ cls := "FranchiseLedger", name := "distance", desc := "(II)I" } : Jvm.MethodName)) ∈ lw_all := lw_g (lw_at lw_m9 33 rfl) rfl
theorem q2082 : (Jvm.Cond.code ({ cls := "FranchiseLedger", name := "distance", desc := "(II)I" } : Jvm.MethodName) prog_1_method_7_code (2 : Nat) (Option.some Jvm.ClassFile.FieldType.int)) ∈ lw_all := lw_g (lw_at lw_m9 34 rfl) rfl
theorem q2083 : (Jvm.Cond.methodLink "FranchiseLedger" (12 : Nat) ({ cls := "FranchiseLedger", name := "column", desc := "(I)I" } : Jvm.MethodName)) ∈ lw_all := lw_g (lw_at lw_m9 35 rfl) rfl
theorem q2084 : (Jvm.Cond.methodLink "FranchiseLedger" (16 : Nat) ({ cls := "java/lang/Math", name := "abs", desc := "(I)I" } : Jvm.MethodName)) ∈ lw_all := lw_g (lw_at lw_m9 36 rfl) rfl
theorem q2087 : (Jvm.Cond.methodLink "FranchiseLedger" (21 : Nat) ({ cls := "FranchiseLedger", name := "row", desc := "(I)I" } : Jvm.MethodName)) ∈ lw_all := lw_g (lw_at lw_m9 39 rfl) rfl
theorem q2093 : (Jvm.Cond.instanceMethod ({ cls := "FranchiseLedger", name := "cede", desc := "(IIIIII)I" } : Jvm.MethodName)) ∈ lw_all := lw_g (lw_at lw_m9 45 rfl) rfl
theorem q2094 : (Jvm.Cond.selects "FranchiseLedger" ({ cls := "FranchiseLedger", name := "cede", desc := "(IIIIII)I" } : Jvm.MethodName) ({ cls := "FranchiseLedger", name := "cede", desc := "(IIIIII)I" } : Jvm.MethodName)) ∈ lw_all := lw_g (lw_at lw_m9 46 rfl) rfl
theorem q2095 : (Jvm.Cond.code ({ cls := "FranchiseLedger", name := "cede", desc := "(IIIIII)I" } : Jvm.MethodName) prog_1_method_36_code (10 : Nat) (Option.some Jvm.ClassFile.FieldType.int)) ∈ lw_all := lw_g (lw_at lw_m9 47 rfl) rfl
theorem q2096 : (Jvm.Cond.constantLong "FranchiseLedger" (206 : Nat) (30 : Int64)) ∈ lw_all := lw_g (lw_at lw_m9 48 rfl) rfl
theorem q2097 : (Jvm.Cond.methodLink "FranchiseLedger" (212 : Nat) ({ cls := "java/lang/System", name := "arraycopy", desc := "(Ljava/lang/Object;ILjava/lang/Object;II)V" } : Jvm.MethodName)) ∈ lw_all := lw_g (lw_at lw_m9 49 rfl) rfl
theorem q2098 : (Jvm.Cond.classLink "FranchiseLedger" (199 : Nat) "FranchiseLedger$Area") ∈ lw_all := lw_g (lw_at lw_m9 50 rfl) rfl
theorem q2099 : (Jvm.Cond.methodLinkNest "FranchiseLedger" (218 : Nat) ({ cls := "FranchiseLedger$Area", name := "<init>", desc := "(IIII)V" } : Jvm.MethodName) "FranchiseLedger") ∈ lw_tbl := lw_at lw_m9 51 rfl
theorem q2100 : (Jvm.Cond.methodLink "FranchiseLedger" (221 : Nat) ({ cls := "FranchiseLedger", name := "moveCells", desc := "(IILFranchiseLedger$Area;)I" } : Jvm.MethodName)) ∈ lw_all := lw_g (lw_at lw_m9 52 rfl) rfl
theorem q2101 : (Jvm.Cond.privateMethod ({ cls := "FranchiseLedger", name := "moveCells", desc := "(IILFranchiseLedger$Area;)I" } : Jvm.MethodName)) ∈ lw_tbl := lw_at lw_m9 53 rfl
theorem q2102 : (Jvm.Cond.instanceMethod ({ cls := "FranchiseLedger", name := "moveCells", desc := "(IILFranchiseLedger$Area;)I" } : Jvm.MethodName)) ∈ lw_all := lw_g (lw_at lw_m9 54 rfl) rfl
theorem q2103 : (Jvm.Cond.code ({ cls := "FranchiseLedger", name := "moveCells", desc := "(IILFranchiseLedger$Area;)I" } : Jvm.MethodName) prog_1_method_35_code (7 : Nat) (Option.some Jvm.ClassFile.FieldType.int)) ∈ lw_all := lw_g (lw_at lw_m9 55 rfl) rfl
theorem q2104 : (Jvm.Cond.methodLink "FranchiseLedger" (198 : Nat) ({ cls := "FranchiseLedger$Area", name := "contains", desc := "(I)Z" } : Jvm.MethodName)) ∈ lw_all := lw_g (lw_at lw_m9 56 rfl) rfl
theorem q2105 : (Jvm.Cond.methodLink "FranchiseLedger" (203 : Nat) ({ cls := "FranchiseLedger$Books", name := "hasOutlet", desc := "(I)Z" } : Jvm.MethodName)) ∈ lw_all := lw_g (lw_at lw_m9 57 rfl) rfl
theorem q2110 : (Jvm.Cond.instanceMethod ({ cls := "FranchiseLedger", name := "outletOwner", desc := "(I)I" } : Jvm.MethodName)) ∈ lw_all := lw_g (lw_at lw_m9 62 rfl) rfl
theorem q2111 : (Jvm.Cond.selects "FranchiseLedger" ({ cls := "FranchiseLedger", name := "outletOwner", desc := "(I)I" } : Jvm.MethodName) ({ cls := "FranchiseLedger", name := "outletOwner", desc := "(I)I" } : Jvm.MethodName)) ∈ lw_all := lw_g (lw_at lw_m9 63 rfl) rfl
theorem q2112 : (Jvm.Cond.code ({ cls := "FranchiseLedger", name := "outletOwner", desc := "(I)I" } : Jvm.MethodName) prog_1_method_18_code (2 : Nat) (Option.some Jvm.ClassFile.FieldType.int)) ∈ lw_all := lw_g (lw_at lw_m9 64 rfl) rfl
theorem q2117 : (Jvm.Cond.instanceMethod ({ cls := "FranchiseLedger", name := "outletCell", desc := "(I)I" } : Jvm.MethodName)) ∈ lw_all := lw_g (lw_at lw_m9 69 rfl) rfl
theorem q2118 : (Jvm.Cond.selects "FranchiseLedger" ({ cls := "FranchiseLedger", name := "outletCell", desc := "(I)I" } : Jvm.MethodName) ({ cls := "FranchiseLedger", name := "outletCell", desc := "(I)I" } : Jvm.MethodName)) ∈ lw_all := lw_g (lw_at lw_m9 70 rfl) rfl
theorem q2119 : (Jvm.Cond.code ({ cls := "FranchiseLedger", name := "outletCell", desc := "(I)I" } : Jvm.MethodName) prog_1_method_19_code (2 : Nat) (Option.some Jvm.ClassFile.FieldType.int)) ∈ lw_all := lw_g (lw_at lw_m9 71 rfl) rfl
theorem q2120 : (Jvm.Cond.methodLink "FranchiseLedger" (131 : Nat) ({ cls := "FranchiseLedger", name := "told", desc := "(I)I" } : Jvm.MethodName)) ∈ lw_all := lw_g (lw_at lw_m9 72 rfl) rfl
theorem q2121 : (Jvm.Cond.static ({ cls := "FranchiseLedger", name := "told", desc := "(I)I" } : Jvm.MethodName)) ∈ lw_all := lw_g (lw_at lw_m9 73 rfl) rfl
theorem q2122 : (Jvm.Cond.code ({ cls := "FranchiseLedger", name := "told", desc := "(I)I" } : Jvm.MethodName) prog_1_method_20_code (1 : Nat) (Option.some Jvm.ClassFile.FieldType.int)) ∈ lw_all := lw_g (lw_at lw_m9 74 rfl) rfl
theorem q2127 : (Jvm.Cond.instanceMethod ({ cls := "FranchiseLedger", name := "openOutlet", desc := "(III)I" } : Jvm.MethodName)) ∈ lw_all := lw_g (lw_at lw_m9 79 rfl) rfl
theorem q2128 : (Jvm.Cond.selects "FranchiseLedger" ({ cls := "FranchiseLedger", name := "openOutlet", desc := "(III)I" } : Jvm.MethodName) ({ cls := "FranchiseLedger", name := "openOutlet", desc := "(III)I" } : Jvm.MethodName)) ∈ lw_all := lw_g (lw_at lw_m9 80 rfl) rfl
theorem q2129 : (Jvm.Cond.code ({ cls := "FranchiseLedger", name := "openOutlet", desc := "(III)I" } : Jvm.MethodName) prog_1_method_37_code (6 : Nat) (Option.some Jvm.ClassFile.FieldType.int)) ∈ lw_all := lw_g (lw_at lw_m9 81 rfl) rfl
theorem q2130 : (Jvm.Cond.methodLink "FranchiseLedger" (225 : Nat) ({ cls := "FranchiseLedger$Outlet", name := "<init>", desc := "(II)V" } : Jvm.MethodName)) ∈ lw_all := lw_g (lw_at lw_m9 82 rfl) rfl
theorem q2131 : (Jvm.Cond.interfaceEntry "FranchiseLedger" (228 : Nat)) ∈ lw_tbl := lw_at lw_m9 83 rfl
theorem q2132 : (Jvm.Cond.methodLink "FranchiseLedger" (228 : Nat) ({ cls := "java/util/List", name := "add", desc := "(Ljava/lang/Object;)Z" } : Jvm.MethodName)) ∈ lw_all := lw_g (lw_at lw_m9 84 rfl) rfl
theorem q2137 : (Jvm.Cond.instanceMethod ({ cls := "FranchiseLedger", name := "bestSite", desc := "(I)I" } : Jvm.MethodName)) ∈ lw_all := lw_g (lw_at lw_m9 89 rfl) rfl
theorem q2138 : (Jvm.Cond.selects "FranchiseLedger" ({ cls := "FranchiseLedger", name := "bestSite", desc := "(I)I" } : Jvm.MethodName) ({ cls := "FranchiseLedger", name := "bestSite", desc := "(I)I" } : Jvm.MethodName)) ∈ lw_all := lw_g (lw_at lw_m9 90 rfl) rfl
theorem q2139 : (Jvm.Cond.code ({ cls := "FranchiseLedger", name := "bestSite", desc := "(I)I" } : Jvm.MethodName) prog_1_method_38_code (6 : Nat) (Option.some Jvm.ClassFile.FieldType.int)) ∈ lw_all := lw_g (lw_at lw_m9 91 rfl) rfl
theorem q2140 : (Jvm.Cond.methodLink "FranchiseLedger" (232 : Nat) ({ cls := "FranchiseLedger$Books", name := "nearest", desc := "(II)I" } : Jvm.MethodName)) ∈ lw_all := lw_g (lw_at lw_m9 92 rfl) rfl
theorem q2150 : (Jvm.Cond.instanceMethod ({ cls := "FranchiseLedger", name := "coverage", desc := "(II)I" } : Jvm.MethodName)) ∈ lw_all := lw_g (lw_at lw_m9 102 rfl) rfl
theorem q2151 : (Jvm.Cond.selects "FranchiseLedger" ({ cls := "FranchiseLedger", name := "coverage", desc := "(II)I" } : Jvm.MethodName) ({ cls := "FranchiseLedger", name := "coverage", desc := "(II)I" } : Jvm.MethodName)) ∈ lw_all := lw_g (lw_at lw_m9 103 rfl) rfl
theorem q2152 : (Jvm.Cond.code ({ cls := "FranchiseLedger", name := "coverage", desc := "(II)I" } : Jvm.MethodName) prog_1_method_39_code (5 : Nat) (Option.some Jvm.ClassFile.FieldType.int)) ∈ lw_all := lw_g (lw_at lw_m9 104 rfl) rfl
theorem q2153 : (Jvm.Cond.constantLong "FranchiseLedger" (235 : Nat) (58 : Int64)) ∈ lw_all := lw_g (lw_at lw_m9 105 rfl) rfl
theorem q2158 : (Jvm.Cond.instanceMethod ({ cls := "FranchiseLedger", name := "rivalCells", desc := "(II)I" } : Jvm.MethodName)) ∈ lw_all := lw_g (lw_at lw_m9 110 rfl) rfl
theorem q2159 : (Jvm.Cond.selects "FranchiseLedger" ({ cls := "FranchiseLedger", name := "rivalCells", desc := "(II)I" } : Jvm.MethodName) ({ cls := "FranchiseLedger", name := "rivalCells", desc := "(II)I" } : Jvm.MethodName)) ∈ lw_all := lw_g (lw_at lw_m9 111 rfl) rfl
theorem q2160 : (Jvm.Cond.code ({ cls := "FranchiseLedger", name := "rivalCells", desc := "(II)I" } : Jvm.MethodName) prog_1_method_40_code (5 : Nat) (Option.some Jvm.ClassFile.FieldType.int)) ∈ lw_all := lw_g (lw_at lw_m9 112 rfl) rfl
theorem q2165 : (Jvm.Cond.instanceMethod ({ cls := "FranchiseLedger", name := "halvingLine", desc := "(I)I" } : Jvm.MethodName)) ∈ lw_all := lw_g (lw_at lw_m9 117 rfl) rfl
theorem q2166 : (Jvm.Cond.selects "FranchiseLedger" ({ cls := "FranchiseLedger", name := "halvingLine", desc := "(I)I" } : Jvm.MethodName) ({ cls := "FranchiseLedger", name := "halvingLine", desc := "(I)I" } : Jvm.MethodName)) ∈ lw_all := lw_g (lw_at lw_m9 118 rfl) rfl
theorem q2167 : (Jvm.Cond.code ({ cls := "FranchiseLedger", name := "halvingLine", desc := "(I)I" } : Jvm.MethodName) prog_1_method_42_code (8 : Nat) (Option.some Jvm.ClassFile.FieldType.int)) ∈ lw_all := lw_g (lw_at lw_m9 119 rfl) rfl
theorem q2168 : (Jvm.Cond.methodLink "FranchiseLedger" (237 : Nat) ({ cls := "FranchiseLedger", name := "area", desc := "(I)I" } : Jvm.MethodName)) ∈ lw_all := lw_g (lw_at lw_m9 120 rfl) rfl
theorem q2169 : (Jvm.Cond.methodLink "FranchiseLedger" (238 : Nat) ({ cls := "FranchiseLedger", name := "difference", desc := "(IIZ)I" } : Jvm.MethodName)) ∈ lw_all := lw_g (lw_at lw_m9 121 rfl) rfl
theorem q2170 : (Jvm.Cond.privateMethod ({ cls := "FranchiseLedger", name := "difference", desc := "(IIZ)I" } : Jvm.MethodName)) ∈ lw_tbl := lw_at lw_m9 122 rfl
theorem q2171 : (Jvm.Cond.instanceMethod ({ cls := "FranchiseLedger", name := "difference", desc := "(IIZ)I" } : Jvm.MethodName)) ∈ lw_all := lw_g (lw_at lw_m9 123 rfl) rfl
theorem q2172 : (Jvm.Cond.code ({ cls := "FranchiseLedger", name := "difference", desc := "(IIZ)I" } : Jvm.MethodName) prog_1_method_41_code (6 : Nat) (Option.some Jvm.ClassFile.FieldType.int)) ∈ lw_all := lw_g (lw_at lw_m9 124 rfl) rfl
theorem q2177 : (Jvm.Cond.instanceMethod ({ cls := "FranchiseLedger", name := "royalty", desc := "(IJ)J" } : Jvm.MethodName)) ∈ lw_all := lw_g (lw_at lw_m9 129 rfl) rfl
theorem q2178 : (Jvm.Cond.selects "FranchiseLedger" ({ cls := "FranchiseLedger", name := "royalty", desc := "(IJ)J" } : Jvm.MethodName) ({ cls := "FranchiseLedger", name := "royalty", desc := "(IJ)J" } : Jvm.MethodName)) ∈ lw_all := lw_g (lw_at lw_m9 130 rfl) rfl
theorem q2179 : (Jvm.Cond.code ({ cls := "FranchiseLedger", name := "royalty", desc := "(IJ)J" } : Jvm.MethodName) prog_1_method_44_code (4 : Nat) (Option.some Jvm.ClassFile.FieldType.long)) ∈ lw_all := lw_g (lw_at lw_m9 131 rfl) rfl
theorem q2180 : (Jvm.Cond.methodLink "FranchiseLedger" (242 : Nat) ({ cls := "FranchiseLedger", name := "isPlan", desc := "(I)Z" } : Jvm.MethodName)) ∈ lw_all := lw_g (lw_at lw_m9 132 rfl) rfl
theorem q2181 : (Jvm.Cond.privateMethod ({ cls := "FranchiseLedger", name := "isPlan", desc := "(I)Z" } : Jvm.MethodName)) ∈ lw_tbl := lw_at lw_m9 133 rfl
theorem q2182 : (Jvm.Cond.instanceMethod ({ cls := "FranchiseLedger", name := "isPlan", desc := "(I)Z" } : Jvm.MethodName)) ∈ lw_all := lw_g (lw_at lw_m9 134 rfl) rfl
theorem q2183 : (Jvm.Cond.code ({ cls := "FranchiseLedger", name := "isPlan", desc := "(I)Z" } : Jvm.MethodName) prog_1_method_43_code (2 : Nat) (Option.some Jvm.ClassFile.FieldType.boolean)) ∈ lw_all := lw_g (lw_at lw_m9 135 rfl) rfl
theorem q2184 : (Jvm.Cond.classLink "FranchiseLedger" (245 : Nat) "FranchiseLedger$Plan") ∈ lw_all := lw_g (lw_at lw_m9 136 rfl) rfl
theorem q2185 : (Jvm.Cond.methodLink "FranchiseLedger" (247 : Nat) ({ cls := "FranchiseLedger$Plan", name := "royalty", desc := "(J)J" } : Jvm.MethodName)) ∈ lw_all := lw_g (lw_at lw_m9 137 rfl) rfl
theorem q2190 : (Jvm.Cond.instanceMethod ({ cls := "FranchiseLedger", name := "planOf", desc := "(I)I" } : Jvm.MethodName)) ∈ lw_all := lw_g (lw_at lw_m9 142 rfl) rfl
theorem q2191 : (Jvm.Cond.selects "FranchiseLedger" ({ cls := "FranchiseLedger", name := "planOf", desc := "(I)I" } : Jvm.MethodName) ({ cls := "FranchiseLedger", name := "planOf", desc := "(I)I" } : Jvm.MethodName)) ∈ lw_all := lw_g (lw_at lw_m9 143 rfl) rfl
theorem q2192 : (Jvm.Cond.code ({ cls := "FranchiseLedger", name := "planOf", desc := "(I)I" } : Jvm.MethodName) prog_1_method_21_code (2 : Nat) (Option.some Jvm.ClassFile.FieldType.int)) ∈ lw_all := lw_g (lw_at lw_m9 144 rfl) rfl
theorem q2197 : (Jvm.Cond.instanceMethod ({ cls := "FranchiseLedger", name := "setPlan", desc := "(II)I" } : Jvm.MethodName)) ∈ lw_all := lw_g (lw_at lw_m9 149 rfl) rfl
theorem q2198 : (Jvm.Cond.selects "FranchiseLedger" ({ cls := "FranchiseLedger", name := "setPlan", desc := "(II)I" } : Jvm.MethodName) ({ cls := "FranchiseLedger", name := "setPlan", desc := "(II)I" } : Jvm.MethodName)) ∈ lw_all := lw_g (lw_at lw_m9 150 rfl) rfl
theorem q2199 : (Jvm.Cond.code ({ cls := "FranchiseLedger", name := "setPlan", desc := "(II)I" } : Jvm.MethodName) prog_1_method_45_code (4 : Nat) (Option.some Jvm.ClassFile.FieldType.int)) ∈ lw_all := lw_g (lw_at lw_m9 151 rfl) rfl
theorem q2204 : (Jvm.Cond.instanceMethod ({ cls := "FranchiseLedger", name := "cheapestPlan", desc := "(I)I" } : Jvm.MethodName)) ∈ lw_all := lw_g (lw_at lw_m9 156 rfl) rfl
theorem q2205 : (Jvm.Cond.selects "FranchiseLedger" ({ cls := "FranchiseLedger", name := "cheapestPlan", desc := "(I)I" } : Jvm.MethodName) ({ cls := "FranchiseLedger", name := "cheapestPlan", desc := "(I)I" } : Jvm.MethodName)) ∈ lw_all := lw_g (lw_at lw_m9 157 rfl) rfl
theorem q2206 : (Jvm.Cond.code ({ cls := "FranchiseLedger", name := "cheapestPlan", desc := "(I)I" } : Jvm.MethodName) prog_1_method_47_code (2 : Nat) (Option.some Jvm.ClassFile.FieldType.int)) ∈ lw_all := lw_g (lw_at lw_m9 158 rfl) rfl
theorem q2207 : (Jvm.Cond.methodLink "FranchiseLedger" (254 : Nat) ({ cls := "FranchiseLedger$Books", name := "sales", desc := "(II)J" } : Jvm.MethodName)) ∈ lw_all := lw_g (lw_at lw_m9 159 rfl) rfl
theorem q2208 : (Jvm.Cond.methodLink "FranchiseLedger" (258 : Nat) ({ cls := "FranchiseLedger", name := "cheapest", desc := "(Ljava/util/List;J)I" } : Jvm.MethodName)) ∈ lw_all := lw_g (lw_at lw_m9 160 rfl) rfl
theorem q2209 : (Jvm.Cond.static ({ cls := "FranchiseLedger", name := "cheapest", desc := "(Ljava/util/List;J)I" } : Jvm.MethodName)) ∈ lw_all := lw_g (lw_at lw_m9 161 rfl) rfl
theorem q2210 : (Jvm.Cond.code ({ cls := "FranchiseLedger", name := "cheapest", desc := "(Ljava/util/List;J)I" } : Jvm.MethodName) prog_1_method_46_code (5 : Nat) (Option.some Jvm.ClassFile.FieldType.int)) ∈ lw_all := lw_g (lw_at lw_m9 162 rfl) rfl
theorem q2211 : (Jvm.Cond.methodLink "FranchiseLedger" (251 : Nat) ({ cls := "FranchiseLedger$Plan", name := "cost", desc := "(J)J" } : Jvm.MethodName)) ∈ lw_all := lw_g (lw_at lw_m9 163 rfl) rfl
theorem q2229 : (Jvm.Cond.instanceMethod ({ cls := "FranchiseLedger", name := "sales", desc := "(I)J" } : Jvm.MethodName)) ∈ lw_all := lw_g (lw_at lw_m9 181 rfl) rfl
theorem q2230 : (Jvm.Cond.selects "FranchiseLedger" ({ cls := "FranchiseLedger", name := "sales", desc := "(I)J" } : Jvm.MethodName) ({ cls := "FranchiseLedger", name := "sales", desc := "(I)J" } : Jvm.MethodName)) ∈ lw_all := lw_g (lw_at lw_m9 182 rfl) rfl
theorem q2231 : (Jvm.Cond.code ({ cls := "FranchiseLedger", name := "sales", desc := "(I)J" } : Jvm.MethodName) prog_1_method_50_code (2 : Nat) (Option.some Jvm.ClassFile.FieldType.long)) ∈ lw_all := lw_g (lw_at lw_m9 183 rfl) rfl
theorem q2236 : (Jvm.Cond.instanceMethod ({ cls := "FranchiseLedger", name := "salesOf", desc := "(II)J" } : Jvm.MethodName)) ∈ lw_all := lw_g (lw_at lw_m9 188 rfl) rfl
theorem q2237 : (Jvm.Cond.selects "FranchiseLedger" ({ cls := "FranchiseLedger", name := "salesOf", desc := "(II)J" } : Jvm.MethodName) ({ cls := "FranchiseLedger", name := "salesOf", desc := "(II)J" } : Jvm.MethodName)) ∈ lw_all := lw_g (lw_at lw_m9 189 rfl) rfl
theorem q2238 : (Jvm.Cond.code ({ cls := "FranchiseLedger", name := "salesOf", desc := "(II)J" } : Jvm.MethodName) prog_1_method_51_code (4 : Nat) (Option.some Jvm.ClassFile.FieldType.long)) ∈ lw_all := lw_g (lw_at lw_m9 190 rfl) rfl
theorem q2239 : (Jvm.Cond.methodLink "FranchiseLedger" (280 : Nat) ({ cls := "FranchiseLedger", name := "isClosed", desc := "(I)Z" } : Jvm.MethodName)) ∈ lw_all := lw_g (lw_at lw_m9 191 rfl) rfl
theorem q2240 : (Jvm.Cond.privateMethod ({ cls := "FranchiseLedger", name := "isClosed", desc := "(I)Z" } : Jvm.MethodName)) ∈ lw_tbl := lw_at lw_m9 192 rfl
theorem q2241 : (Jvm.Cond.instanceMethod ({ cls := "FranchiseLedger", name := "isClosed", desc := "(I)Z" } : Jvm.MethodName)) ∈ lw_all := lw_g (lw_at lw_m9 193 rfl) rfl
theorem q2242 : (Jvm.Cond.code ({ cls := "FranchiseLedger", name := "isClosed", desc := "(I)Z" } : Jvm.MethodName) prog_1_method_14_code (2 : Nat) (Option.some Jvm.ClassFile.FieldType.boolean)) ∈ lw_all := lw_g (lw_at lw_m9 194 rfl) rfl
theorem q2247 : (Jvm.Cond.instanceMethod ({ cls := "FranchiseLedger", name := "creditDue", desc := "(II)J" } : Jvm.MethodName)) ∈ lw_all := lw_g (lw_at lw_m9 199 rfl) rfl
theorem q2248 : (Jvm.Cond.selects "FranchiseLedger" ({ cls := "FranchiseLedger", name := "creditDue", desc := "(II)J" } : Jvm.MethodName) ({ cls := "FranchiseLedger", name := "creditDue", desc := "(II)J" } : Jvm.MethodName)) ∈ lw_all := lw_g (lw_at lw_m9 200 rfl) rfl
theorem q2249 : (Jvm.Cond.code ({ cls := "FranchiseLedger", name := "creditDue", desc := "(II)J" } : Jvm.MethodName) prog_1_method_53_code (3 : Nat) (Option.some Jvm.ClassFile.FieldType.long)) ∈ lw_all := lw_g (lw_at lw_m9 201 rfl) rfl
theorem q2250 : (Jvm.Cond.methodLink "FranchiseLedger" (290 : Nat) ({ cls := "FranchiseLedger$Books", name := "credit", desc := "(II)J" } : Jvm.MethodName)) ∈ lw_all := lw_g (lw_at lw_m9 202 rfl) rfl
theorem q2259 : (Jvm.Cond.instanceMethod ({ cls := "FranchiseLedger", name := "invoice", desc := "(III)J" } : Jvm.MethodName)) ∈ lw_all := lw_g (lw_at lw_m9 211 rfl) rfl
theorem q2260 : (Jvm.Cond.selects "FranchiseLedger" ({ cls := "FranchiseLedger", name := "invoice", desc := "(III)J" } : Jvm.MethodName) ({ cls := "FranchiseLedger", name := "invoice", desc := "(III)J" } : Jvm.MethodName)) ∈ lw_all := lw_g (lw_at lw_m9 212 rfl) rfl
theorem q2261 : (Jvm.Cond.code ({ cls := "FranchiseLedger", name := "invoice", desc := "(III)J" } : Jvm.MethodName) prog_1_method_55_code (5 : Nat) (Option.some Jvm.ClassFile.FieldType.long)) ∈ lw_all := lw_g (lw_at lw_m9 213 rfl) rfl
theorem q2262 : (Jvm.Cond.constantLong "FranchiseLedger" (296 : Nat) (6 : Int64)) ∈ lw_all := lw_g (lw_at lw_m9 214 rfl) rfl
theorem q2267 : (Jvm.Cond.instanceMethod ({ cls := "FranchiseLedger", name := "predictDue", desc := "(II)J" } : Jvm.MethodName)) ∈ lw_all := lw_g (lw_at lw_m9 219 rfl) rfl
theorem q2268 : (Jvm.Cond.selects "FranchiseLedger" ({ cls := "FranchiseLedger", name := "predictDue", desc := "(II)J" } : Jvm.MethodName) ({ cls := "FranchiseLedger", name := "predictDue", desc := "(II)J" } : Jvm.MethodName)) ∈ lw_all := lw_g (lw_at lw_m9 220 rfl) rfl
theorem q2269 : (Jvm.Cond.code ({ cls := "FranchiseLedger", name := "predictDue", desc := "(II)J" } : Jvm.MethodName) prog_1_method_56_code (3 : Nat) (Option.some Jvm.ClassFile.FieldType.long)) ∈ lw_all := lw_g (lw_at lw_m9 221 rfl) rfl
theorem q2270 : (Jvm.Cond.constantLong "FranchiseLedger" (301 : Nat) (300 : Int64)) ∈ lw_all := lw_g (lw_at lw_m9 222 rfl) rfl
theorem q2271 : (Jvm.Cond.methodLink "FranchiseLedger" (303 : Nat) ({ cls := "FranchiseLedger$Books", name := "statement", desc := "(II)[J" } : Jvm.MethodName)) ∈ lw_all := lw_g (lw_at lw_m9 223 rfl) rfl
theorem q2276 : (Jvm.Cond.instanceMethod ({ cls := "FranchiseLedger", name := "balance", desc := "(I)J" } : Jvm.MethodName)) ∈ lw_all := lw_g (lw_at lw_m9 228 rfl) rfl
theorem q2277 : (Jvm.Cond.selects "FranchiseLedger" ({ cls := "FranchiseLedger", name := "balance", desc := "(I)J" } : Jvm.MethodName) ({ cls := "FranchiseLedger", name := "balance", desc := "(I)J" } : Jvm.MethodName)) ∈ lw_all := lw_g (lw_at lw_m9 229 rfl) rfl
theorem q2278 : (Jvm.Cond.code ({ cls := "FranchiseLedger", name := "balance", desc := "(I)J" } : Jvm.MethodName) prog_1_method_26_code (2 : Nat) (Option.some Jvm.ClassFile.FieldType.long)) ∈ lw_all := lw_g (lw_at lw_m9 230 rfl) rfl
theorem q2287 : (Jvm.Cond.instanceMethod ({ cls := "FranchiseLedger", name := "monthsOverdue", desc := "(I)I" } : Jvm.MethodName)) ∈ lw_all := lw_g (lw_at lw_m9 239 rfl) rfl
theorem q2288 : (Jvm.Cond.selects "FranchiseLedger" ({ cls := "FranchiseLedger", name := "monthsOverdue", desc := "(I)I" } : Jvm.MethodName) ({ cls := "FranchiseLedger", name := "monthsOverdue", desc := "(I)I" } : Jvm.MethodName)) ∈ lw_all := lw_g (lw_at lw_m10 0 rfl) rfl
theorem q2289 : (Jvm.Cond.code ({ cls := "FranchiseLedger", name := "monthsOverdue", desc := "(I)I" } : Jvm.MethodName) prog_1_method_25_code (2 : Nat) (Option.some Jvm.ClassFile.FieldType.int)) ∈ lw_all := lw_g (lw_at lw_m10 1 rfl) rfl
theorem q2294 : (Jvm.Cond.instanceMethod ({ cls := "FranchiseLedger", name := "payOff", desc := "(IJ)I" } : Jvm.MethodName)) ∈ lw_all := lw_g (lw_at lw_m10 6 rfl) rfl
theorem q2295 : (Jvm.Cond.selects "FranchiseLedger" ({ cls := "FranchiseLedger", name := "payOff", desc := "(IJ)I" } : Jvm.MethodName) ({ cls := "FranchiseLedger", name := "payOff", desc := "(IJ)I" } : Jvm.MethodName)) ∈ lw_all := lw_g (lw_at lw_m10 7 rfl) rfl
theorem q2296 : (Jvm.Cond.code ({ cls := "FranchiseLedger", name := "payOff", desc := "(IJ)I" } : Jvm.MethodName) prog_1_method_59_code (7 : Nat) (Option.some Jvm.ClassFile.FieldType.int)) ∈ lw_all := lw_g (lw_at lw_m10 8 rfl) rfl
theorem q2301 : (Jvm.Cond.instanceMethod ({ cls := "FranchiseLedger", name := "terminate", desc := "(I)Z" } : Jvm.MethodName)) ∈ lw_all := lw_g (lw_at lw_m10 13 rfl) rfl
theorem q2302 : (Jvm.Cond.selects "FranchiseLedger" ({ cls := "FranchiseLedger", name := "terminate", desc := "(I)Z" } : Jvm.MethodName) ({ cls := "FranchiseLedger", name := "terminate", desc := "(I)Z" } : Jvm.MethodName)) ∈ lw_all := lw_g (lw_at lw_m10 14 rfl) rfl
theorem q2303 : (Jvm.Cond.code ({ cls := "FranchiseLedger", name := "terminate", desc := "(I)Z" } : Jvm.MethodName) prog_1_method_60_code (3 : Nat) (Option.some Jvm.ClassFile.FieldType.boolean)) ∈ lw_all := lw_g (lw_at lw_m10 15 rfl) rfl
theorem q2304 : (Jvm.Cond.methodLink "FranchiseLedger" (324 : Nat) ({ cls := "FranchiseLedger$Books", name := "terminate", desc := "(I)V" } : Jvm.MethodName)) ∈ lw_all := lw_g (lw_at lw_m10 16 rfl) rfl
theorem q2316 : (Jvm.Cond.instanceMethod ({ cls := "FranchiseLedger", name := "status", desc := "(I)I" } : Jvm.MethodName)) ∈ lw_all := lw_g (lw_at lw_m10 28 rfl) rfl
theorem q2317 : (Jvm.Cond.selects "FranchiseLedger" ({ cls := "FranchiseLedger", name := "status", desc := "(I)I" } : Jvm.MethodName) ({ cls := "FranchiseLedger", name := "status", desc := "(I)I" } : Jvm.MethodName)) ∈ lw_all := lw_g (lw_at lw_m10 29 rfl) rfl
theorem q2318 : (Jvm.Cond.code ({ cls := "FranchiseLedger", name := "status", desc := "(I)I" } : Jvm.MethodName) prog_1_method_22_code (2 : Nat) (Option.some Jvm.ClassFile.FieldType.int)) ∈ lw_all := lw_g (lw_at lw_m10 30 rfl) rfl
theorem q2323 : (Jvm.Cond.instanceMethod ({ cls := "FranchiseLedger", name := "contributions", desc := "(I)J" } : Jvm.MethodName)) ∈ lw_all := lw_g (lw_at lw_m10 35 rfl) rfl
theorem q2324 : (Jvm.Cond.selects "FranchiseLedger" ({ cls := "FranchiseLedger", name := "contributions", desc := "(I)J" } : Jvm.MethodName) ({ cls := "FranchiseLedger", name := "contributions", desc := "(I)J" } : Jvm.MethodName)) ∈ lw_all := lw_g (lw_at lw_m10 36 rfl) rfl
theorem q2325 : (Jvm.Cond.code ({ cls := "FranchiseLedger", name := "contributions", desc := "(I)J" } : Jvm.MethodName) prog_1_method_27_code (2 : Nat) (Option.some Jvm.ClassFile.FieldType.long)) ∈ lw_all := lw_g (lw_at lw_m10 37 rfl) rfl
theorem q2330 : (Jvm.Cond.instanceMethod ({ cls := "FranchiseLedger", name := "spent", desc := "(I)J" } : Jvm.MethodName)) ∈ lw_all := lw_g (lw_at lw_m10 42 rfl) rfl
theorem q2331 : (Jvm.Cond.selects "FranchiseLedger" ({ cls := "FranchiseLedger", name := "spent", desc := "(I)J" } : Jvm.MethodName) ({ cls := "FranchiseLedger", name := "spent", desc := "(I)J" } : Jvm.MethodName)) ∈ lw_all := lw_g (lw_at lw_m10 43 rfl) rfl
theorem q2332 : (Jvm.Cond.code ({ cls := "FranchiseLedger", name := "spent", desc := "(I)J" } : Jvm.MethodName) prog_1_method_62_code (2 : Nat) (Option.some Jvm.ClassFile.FieldType.long)) ∈ lw_all := lw_g (lw_at lw_m10 44 rfl) rfl
theorem q2333 : (Jvm.Cond.constantLong "FranchiseLedger" (330 : Nat) (2 : Int64)) ∈ lw_all := lw_g (lw_at lw_m10 45 rfl) rfl
theorem q2346 : (Jvm.Cond.instanceMethod ({ cls := "FranchiseLedger", name := "allowance", desc := "(I)J" } : Jvm.MethodName)) ∈ lw_all := lw_g (lw_at lw_m10 58 rfl) rfl
theorem q2347 : (Jvm.Cond.selects "FranchiseLedger" ({ cls := "FranchiseLedger", name := "allowance", desc := "(I)J" } : Jvm.MethodName) ({ cls := "FranchiseLedger", name := "allowance", desc := "(I)J" } : Jvm.MethodName)) ∈ lw_all := lw_g (lw_at lw_m10 59 rfl) rfl
theorem q2348 : (Jvm.Cond.code ({ cls := "FranchiseLedger", name := "allowance", desc := "(I)J" } : Jvm.MethodName) prog_1_method_28_code (2 : Nat) (Option.some Jvm.ClassFile.FieldType.long)) ∈ lw_all := lw_g (lw_at lw_m10 60 rfl) rfl
theorem q2353 : (Jvm.Cond.instanceMethod ({ cls := "FranchiseLedger", name := "nationalShare", desc := "(I)J" } : Jvm.MethodName)) ∈ lw_all := lw_g (lw_at lw_m10 65 rfl) rfl
theorem q2354 : (Jvm.Cond.selects "FranchiseLedger" ({ cls := "FranchiseLedger", name := "nationalShare", desc := "(I)J" } : Jvm.MethodName) ({ cls := "FranchiseLedger", name := "nationalShare", desc := "(I)J" } : Jvm.MethodName)) ∈ lw_all := lw_g (lw_at lw_m10 66 rfl) rfl
theorem q2355 : (Jvm.Cond.code ({ cls := "FranchiseLedger", name := "nationalShare", desc := "(I)J" } : Jvm.MethodName) prog_1_method_65_code (2 : Nat) (Option.some Jvm.ClassFile.FieldType.long)) ∈ lw_all := lw_g (lw_at lw_m10 67 rfl) rfl
theorem q2356 : (Jvm.Cond.methodLink "FranchiseLedger" (338 : Nat) ({ cls := "FranchiseLedger$Books", name := "share", desc := "(I)J" } : Jvm.MethodName)) ∈ lw_all := lw_g (lw_at lw_m10 68 rfl) rfl
theorem q2368 : (Jvm.Cond.instanceMethod ({ cls := "FranchiseLedger", name := "requestTransfer", desc := "(IIJ)Z" } : Jvm.MethodName)) ∈ lw_all := lw_g (lw_at lw_m10 80 rfl) rfl
theorem q2369 : (Jvm.Cond.selects "FranchiseLedger" ({ cls := "FranchiseLedger", name := "requestTransfer", desc := "(IIJ)Z" } : Jvm.MethodName) ({ cls := "FranchiseLedger", name := "requestTransfer", desc := "(IIJ)Z" } : Jvm.MethodName)) ∈ lw_all := lw_g (lw_at lw_m10 81 rfl) rfl
theorem q2370 : (Jvm.Cond.code ({ cls := "FranchiseLedger", name := "requestTransfer", desc := "(IIJ)Z" } : Jvm.MethodName) prog_1_method_66_code (6 : Nat) (Option.some Jvm.ClassFile.FieldType.boolean)) ∈ lw_all := lw_g (lw_at lw_m10 82 rfl) rfl
theorem q2371 : (Jvm.Cond.constantLong "FranchiseLedger" (341 : Nat) (999 : Int64)) ∈ lw_all := lw_g (lw_at lw_m10 83 rfl) rfl
theorem q2372 : (Jvm.Cond.methodLink "FranchiseLedger" (347 : Nat) ({ cls := "FranchiseLedger$Transfer", name := "isOpen", desc := "()Z" } : Jvm.MethodName)) ∈ lw_all := lw_g (lw_at lw_m10 84 rfl) rfl
theorem q2373 : (Jvm.Cond.methodLink "FranchiseLedger" (353 : Nat) ({ cls := "FranchiseLedger$Transfer", name := "request", desc := "(IIJ)V" } : Jvm.MethodName)) ∈ lw_all := lw_g (lw_at lw_m10 85 rfl) rfl
theorem q2385 : (Jvm.Cond.instanceMethod ({ cls := "FranchiseLedger", name := "exercise", desc := "(I)Z" } : Jvm.MethodName)) ∈ lw_all := lw_g (lw_at lw_m10 97 rfl) rfl
theorem q2386 : (Jvm.Cond.selects "FranchiseLedger" ({ cls := "FranchiseLedger", name := "exercise", desc := "(I)Z" } : Jvm.MethodName) ({ cls := "FranchiseLedger", name := "exercise", desc := "(I)Z" } : Jvm.MethodName)) ∈ lw_all := lw_g (lw_at lw_m10 98 rfl) rfl
theorem q2387 : (Jvm.Cond.code ({ cls := "FranchiseLedger", name := "exercise", desc := "(I)Z" } : Jvm.MethodName) prog_1_method_68_code (3 : Nat) (Option.some Jvm.ClassFile.FieldType.boolean)) ∈ lw_all := lw_g (lw_at lw_m10 99 rfl) rfl
theorem q2392 : (Jvm.Cond.instanceMethod ({ cls := "FranchiseLedger", name := "withdraw", desc := "(I)Z" } : Jvm.MethodName)) ∈ lw_all := lw_g (lw_at lw_m10 104 rfl) rfl
theorem q2393 : (Jvm.Cond.selects "FranchiseLedger" ({ cls := "FranchiseLedger", name := "withdraw", desc := "(I)Z" } : Jvm.MethodName) ({ cls := "FranchiseLedger", name := "withdraw", desc := "(I)Z" } : Jvm.MethodName)) ∈ lw_all := lw_g (lw_at lw_m10 105 rfl) rfl
theorem q2394 : (Jvm.Cond.code ({ cls := "FranchiseLedger", name := "withdraw", desc := "(I)Z" } : Jvm.MethodName) prog_1_method_69_code (3 : Nat) (Option.some Jvm.ClassFile.FieldType.boolean)) ∈ lw_all := lw_g (lw_at lw_m10 106 rfl) rfl
theorem q2399 : (Jvm.Cond.instanceMethod ({ cls := "FranchiseLedger", name := "transferState", desc := "(I)I" } : Jvm.MethodName)) ∈ lw_all := lw_g (lw_at lw_m10 111 rfl) rfl
theorem q2400 : (Jvm.Cond.selects "FranchiseLedger" ({ cls := "FranchiseLedger", name := "transferState", desc := "(I)I" } : Jvm.MethodName) ({ cls := "FranchiseLedger", name := "transferState", desc := "(I)I" } : Jvm.MethodName)) ∈ lw_all := lw_g (lw_at lw_m10 112 rfl) rfl
theorem q2401 : (Jvm.Cond.code ({ cls := "FranchiseLedger", name := "transferState", desc := "(I)I" } : Jvm.MethodName) prog_1_method_70_code (2 : Nat) (Option.some Jvm.ClassFile.FieldType.int)) ∈ lw_all := lw_g (lw_at lw_m10 113 rfl) rfl
theorem q2406 : (Jvm.Cond.instanceMethod ({ cls := "FranchiseLedger", name := "transferWait", desc := "(I)I" } : Jvm.MethodName)) ∈ lw_all := lw_g (lw_at lw_m10 118 rfl) rfl
theorem q2407 : (Jvm.Cond.selects "FranchiseLedger" ({ cls := "FranchiseLedger", name := "transferWait", desc := "(I)I" } : Jvm.MethodName) ({ cls := "FranchiseLedger", name := "transferWait", desc := "(I)I" } : Jvm.MethodName)) ∈ lw_all := lw_g (lw_at lw_m10 119 rfl) rfl
theorem q2408 : (Jvm.Cond.code ({ cls := "FranchiseLedger", name := "transferWait", desc := "(I)I" } : Jvm.MethodName) prog_1_method_71_code (3 : Nat) (Option.some Jvm.ClassFile.FieldType.int)) ∈ lw_all := lw_g (lw_at lw_m10 120 rfl) rfl
theorem q2409 : (Jvm.Cond.methodLink "FranchiseLedger" (376 : Nat) ({ cls := "java/lang/Math", name := "max", desc := "(II)I" } : Jvm.MethodName)) ∈ lw_all := lw_g (lw_at lw_m10 121 rfl) rfl
theorem q2414 : (Jvm.Cond.instanceMethod ({ cls := "FranchiseLedger", name := "generation", desc := "(I)I" } : Jvm.MethodName)) ∈ lw_all := lw_g (lw_at lw_m10 126 rfl) rfl
theorem q2415 : (Jvm.Cond.selects "FranchiseLedger" ({ cls := "FranchiseLedger", name := "generation", desc := "(I)I" } : Jvm.MethodName) ({ cls := "FranchiseLedger", name := "generation", desc := "(I)I" } : Jvm.MethodName)) ∈ lw_all := lw_g (lw_at lw_m10 127 rfl) rfl
theorem q2416 : (Jvm.Cond.code ({ cls := "FranchiseLedger", name := "generation", desc := "(I)I" } : Jvm.MethodName) prog_1_method_23_code (2 : Nat) (Option.some Jvm.ClassFile.FieldType.int)) ∈ lw_all := lw_g (lw_at lw_m10 128 rfl) rfl
theorem q2421 : (Jvm.Cond.instanceMethod ({ cls := "FranchiseLedger", name := "worth", desc := "(I)I" } : Jvm.MethodName)) ∈ lw_all := lw_g (lw_at lw_m10 133 rfl) rfl
theorem q2422 : (Jvm.Cond.selects "FranchiseLedger" ({ cls := "FranchiseLedger", name := "worth", desc := "(I)I" } : Jvm.MethodName) ({ cls := "FranchiseLedger", name := "worth", desc := "(I)I" } : Jvm.MethodName)) ∈ lw_all := lw_g (lw_at lw_m10 134 rfl) rfl
theorem q2423 : (Jvm.Cond.code ({ cls := "FranchiseLedger", name := "worth", desc := "(I)I" } : Jvm.MethodName) prog_1_method_24_code (2 : Nat) (Option.some Jvm.ClassFile.FieldType.int)) ∈ lw_all := lw_g (lw_at lw_m10 135 rfl) rfl
theorem q2428 : (Jvm.Cond.instanceMethod ({ cls := "FranchiseLedger", name := "formatInvoice", desc := "(II)I" } : Jvm.MethodName)) ∈ lw_all := lw_g (lw_at lw_m10 140 rfl) rfl
theorem q2429 : (Jvm.Cond.selects "FranchiseLedger" ({ cls := "FranchiseLedger", name := "formatInvoice", desc := "(II)I" } : Jvm.MethodName) ({ cls := "FranchiseLedger", name := "formatInvoice", desc := "(II)I" } : Jvm.MethodName)) ∈ lw_all := lw_g (lw_at lw_m10 141 rfl) rfl
theorem q2430 : (Jvm.Cond.code ({ cls := "FranchiseLedger", name := "formatInvoice", desc := "(II)I" } : Jvm.MethodName) prog_1_method_79_code (5 : Nat) (Option.some Jvm.ClassFile.FieldType.int)) ∈ lw_all := lw_g (lw_at lw_m10 142 rfl) rfl
theorem q2431 : (Jvm.Cond.methodLink "FranchiseLedger" (472 : Nat) ({ cls := "java/lang/StringBuilder", name := "setLength", desc := "(I)V" } : Jvm.MethodName)) ∈ lw_all := lw_g (lw_at lw_m10 143 rfl) rfl
theorem q2483 : (Jvm.Cond.methodLink "FranchiseLedger" (475 : Nat) ({ cls := "FranchiseLedger", name := "nameOf", desc := "(I)Ljava/lang/String;" } : Jvm.MethodName)) ∈ lw_all := lw_g (lw_at lw_m10 195 rfl) rfl
theorem q2484 : (Jvm.Cond.static ({ cls := "FranchiseLedger", name := "nameOf", desc := "(I)Ljava/lang/String;" } : Jvm.MethodName)) ∈ lw_all := lw_g (lw_at lw_m10 196 rfl) rfl
theorem q2485 : (Jvm.Cond.code ({ cls := "FranchiseLedger", name := "nameOf", desc := "(I)Ljava/lang/String;" } : Jvm.MethodName) prog_1_method_78_code (1 : Nat) (Option.some (Jvm.ClassFile.FieldType.object "java/lang/String"))) ∈ lw_all := lw_g (lw_at lw_m10 197 rfl) rfl
theorem q2486 : (Jvm.Cond.stringRef "FranchiseLedger" (461 : Nat) "royalty") ∈ lw_tbl := lw_at lw_m10 198 rfl
theorem q2487 : (Jvm.Cond.stringRef "FranchiseLedger" (462 : Nat) "ad") ∈ lw_tbl := lw_at lw_m10 199 rfl
theorem q2488 : (Jvm.Cond.stringRef "FranchiseLedger" (464 : Nat) "interest") ∈ lw_tbl := lw_at lw_m10 200 rfl
theorem q2489 : (Jvm.Cond.stringRef "FranchiseLedger" (465 : Nat) "paid") ∈ lw_tbl := lw_at lw_m10 201 rfl
theorem q2490 : (Jvm.Cond.stringRef "FranchiseLedger" (467 : Nat) "received") ∈ lw_tbl := lw_at lw_m10 202 rfl
theorem q2491 : (Jvm.Cond.stringRef "FranchiseLedger" (469 : Nat) "due") ∈ lw_tbl := lw_at lw_m10 203 rfl
theorem q2492 : (Jvm.Cond.stringRef "FranchiseLedger" (471 : Nat) "balance") ∈ lw_tbl := lw_at lw_m10 204 rfl
theorem q2493 : (Jvm.Cond.methodLink "FranchiseLedger" (479 : Nat) ({ cls := "FranchiseLedger", name := "format", desc := "(Ljava/lang/String;J)V" } : Jvm.MethodName)) ∈ lw_all := lw_g (lw_at lw_m10 205 rfl) rfl
theorem q2494 : (Jvm.Cond.privateMethod ({ cls := "FranchiseLedger", name := "format", desc := "(Ljava/lang/String;J)V" } : Jvm.MethodName)) ∈ lw_tbl := lw_at lw_m10 206 rfl
theorem q2495 : (Jvm.Cond.instanceMethod ({ cls := "FranchiseLedger", name := "format", desc := "(Ljava/lang/String;J)V" } : Jvm.MethodName)) ∈ lw_all := lw_g (lw_at lw_m10 207 rfl) rfl
theorem q2496 : (Jvm.Cond.code ({ cls := "FranchiseLedger", name := "format", desc := "(Ljava/lang/String;J)V" } : Jvm.MethodName) prog_1_method_77_code (6 : Nat) (Option.none : Option Jvm.ClassFile.FieldType)) ∈ lw_all := lw_g (lw_at lw_m10 208 rfl) rfl
theorem q2497 : (Jvm.Cond.methodLink "FranchiseLedger" (449 : Nat) ({ cls := "java/lang/StringBuilder", name := "append", desc := "(Ljava/lang/String;)Ljava/lang/StringBuilder;" } : Jvm.MethodName)) ∈ lw_all := lw_g (lw_at lw_m10 209 rfl) rfl
theorem q2498 : (Jvm.Cond.methodLink "FranchiseLedger" (452 : Nat) ({ cls := "java/lang/Math", name := "abs", desc := "(J)J" } : Jvm.MethodName)) ∈ lw_all := lw_g (lw_at lw_m10 210 rfl) rfl
theorem q2501 : (Jvm.Cond.constantLong "FranchiseLedger" (454 : Nat) (100 : Int64)) ∈ lw_all := lw_g (lw_at lw_m10 213 rfl) rfl
theorem q2502 : (Jvm.Cond.methodLink "FranchiseLedger" (456 : Nat) ({ cls := "java/lang/StringBuilder", name := "append", desc := "(J)Ljava/lang/StringBuilder;" } : Jvm.MethodName)) ∈ lw_all := lw_g (lw_at lw_m10 214 rfl) rfl
theorem q2529 : (Jvm.Cond.constantLong "FranchiseLedger" (459 : Nat) (10 : Int64)) ∈ lw_all := lw_g (lw_at lw_m11 1 rfl) rfl
theorem q3256 : (Jvm.Cond.castable "FranchiseLedger" "java/lang/Object") ∈ lw_tbl := lw_at lw_m14 8 rfl
theorem in_X1 : ∀ w ∈ wsX10, w ∈ lw_all := lw_in wsX10 [703, 705, 707, 709, 711, 713, 715, 717, 719, 721] (by decide +kernel) (by decide +kernel)
