/-! FranchiseLedger$Books -/
set_option maxRecDepth 100000
def RX4 : String := "FranchiseLedger$Books"
def TX4 : u_T := fun k => match k with
  | 0 => ("FranchiseLedger$Books", "franchisees", "Ljava/util/List;", true)
  | 1 => ("FranchiseLedger$Books", "outlets", "Ljava/util/List;", true)
  | 2 => ("FranchiseLedger$Books", "grid", "LFranchiseLedger$Grid;", true)
  | 3 => ("FranchiseLedger$Books", "delivered", "[[J", true)
  | 4 => ("FranchiseLedger$Books", "spent", "[J", true)
  | 5 => ("FranchiseLedger$Books", "month", "I", false)
  | _ => ("FranchiseLedger$Books", "this$0", "LFranchiseLedger;", true)
def tyX4 : Nat → FieldType := fun k => match k with
  | 0 => .object "java/util/List"
  | 1 => .object "java/util/List"
  | 2 => .object "FranchiseLedger$Grid"
  | 3 => .array (.array .long)
  | 4 => .array .long
  | 5 => .int
  | _ => .object "FranchiseLedger"
abbrev wsX40 : List Cond := u_ws RX4 TX4 7
theorem nmX4 : ∀ a, a < 7 → ∀ b, b < 7 → a ≠ b → (TX4 a).2.1 ≠ (TX4 b).2.1 := by decide +kernel
theorem tyX4_ok : ∀ k, k < 7 → parseFieldDescriptor (TX4 k).2.2.1 = some (tyX4 k) := by decide +kernel
abbrev cX4_init : ByteArray := prog_3_method_1_code
def yX4_init : MethodName := ⟨RX4, "<init>", "(LFranchiseLedger;)V"⟩
def dkwX4_init_2 : List UInt8 := [16, 8, 16, 8, 197, 0, 34, 2, 181, 0, 36, 42, 6, 188, 11, 181, 0, 39, 177]
abbrev dktX4_init_2 : List UInt8 := dkwX4_init_2 ++ []
def dkwX4_init_1 : List UInt8 := [187, 0, 15, 89, 5, 183, 0, 17, 181, 0, 24, 42, 187, 0, 27, 89, 183, 0, 29, 181, 0, 30, 42]
abbrev dktX4_init_1 : List UInt8 := dkwX4_init_1 ++ dktX4_init_2
def dkwX4_init_0 : List UInt8 := [42, 43, 181, 0, 3, 42, 183, 0, 9, 42, 187, 0, 15, 89, 5, 183, 0, 17, 181, 0, 20, 42]
abbrev dktX4_init_0 : List UInt8 := dkwX4_init_0 ++ dktX4_init_1
theorem dksX4_init_0 : cX4_init.data.toList.drop 0 = dktX4_init_0 := by decide +kernel
theorem dksX4_init_1 : cX4_init.data.toList.drop 22 = dktX4_init_1 := dk_seg dksX4_init_0 22 rfl rfl
theorem dksX4_init_2 : cX4_init.data.toList.drop 45 = dktX4_init_2 := dk_seg dksX4_init_1 23 rfl rfl
theorem dX4_init_0 : decode cX4_init 0 = .ok (.aload_n 0, 1) := dk_42 (dk_at dksX4_init_0 0 rfl rfl)
theorem dX4_init_1 : decode cX4_init 1 = .ok (.aload_n 1, 1) := dk_43 (dk_at dksX4_init_0 1 rfl rfl)
theorem dX4_init_2 : decode cX4_init 2 = .ok (.putfield 3, 3) := dk_181 0 3 (dk_at dksX4_init_0 2 rfl rfl)
theorem dX4_init_5 : decode cX4_init 5 = .ok (.aload_n 0, 1) := dk_42 (dk_at dksX4_init_0 5 rfl rfl)
theorem dX4_init_6 : decode cX4_init 6 = .ok (.invokespecial 9, 3) := dk_183 0 9 (dk_at dksX4_init_0 6 rfl rfl)
theorem dX4_init_9 : decode cX4_init 9 = .ok (.aload_n 0, 1) := dk_42 (dk_at dksX4_init_0 9 rfl rfl)
theorem dX4_init_10 : decode cX4_init 10 = .ok (.new 15, 3) := dk_187 0 15 (dk_at dksX4_init_0 10 rfl rfl)
theorem dX4_init_13 : decode cX4_init 13 = .ok (.dup, 1) := dk_89 (dk_at dksX4_init_0 13 rfl rfl)
theorem dX4_init_14 : decode cX4_init 14 = .ok (.iconst 2, 1) := dk_5 (dk_at dksX4_init_0 14 rfl rfl)
theorem dX4_init_15 : decode cX4_init 15 = .ok (.invokespecial 17, 3) := dk_183 0 17 (dk_at dksX4_init_0 15 rfl rfl)
theorem dX4_init_18 : decode cX4_init 18 = .ok (.putfield 20, 3) := dk_181 0 20 (dk_at dksX4_init_0 18 rfl rfl)
theorem dX4_init_21 : decode cX4_init 21 = .ok (.aload_n 0, 1) := dk_42 (dk_at dksX4_init_0 21 rfl rfl)
theorem dX4_init_22 : decode cX4_init 22 = .ok (.new 15, 3) := dk_187 0 15 (dk_at dksX4_init_1 0 rfl rfl)
theorem dX4_init_25 : decode cX4_init 25 = .ok (.dup, 1) := dk_89 (dk_at dksX4_init_1 3 rfl rfl)
theorem dX4_init_26 : decode cX4_init 26 = .ok (.iconst 2, 1) := dk_5 (dk_at dksX4_init_1 4 rfl rfl)
theorem dX4_init_27 : decode cX4_init 27 = .ok (.invokespecial 17, 3) := dk_183 0 17 (dk_at dksX4_init_1 5 rfl rfl)
theorem dX4_init_30 : decode cX4_init 30 = .ok (.putfield 24, 3) := dk_181 0 24 (dk_at dksX4_init_1 8 rfl rfl)
theorem dX4_init_33 : decode cX4_init 33 = .ok (.aload_n 0, 1) := dk_42 (dk_at dksX4_init_1 11 rfl rfl)
theorem dX4_init_34 : decode cX4_init 34 = .ok (.new 27, 3) := dk_187 0 27 (dk_at dksX4_init_1 12 rfl rfl)
theorem dX4_init_37 : decode cX4_init 37 = .ok (.dup, 1) := dk_89 (dk_at dksX4_init_1 15 rfl rfl)
theorem dX4_init_38 : decode cX4_init 38 = .ok (.invokespecial 29, 3) := dk_183 0 29 (dk_at dksX4_init_1 16 rfl rfl)
theorem dX4_init_41 : decode cX4_init 41 = .ok (.putfield 30, 3) := dk_181 0 30 (dk_at dksX4_init_1 19 rfl rfl)
theorem dX4_init_44 : decode cX4_init 44 = .ok (.aload_n 0, 1) := dk_42 (dk_at dksX4_init_1 22 rfl rfl)
theorem dX4_init_45 : decode cX4_init 45 = .ok (.bipush 8, 2) := dk_16 8 (dk_at dksX4_init_2 0 rfl rfl)
theorem dX4_init_47 : decode cX4_init 47 = .ok (.bipush 8, 2) := dk_16 8 (dk_at dksX4_init_2 2 rfl rfl)
theorem dX4_init_49 : decode cX4_init 49 = .ok (.multianewarray 34 2, 4) := by decide +kernel
theorem dX4_init_53 : decode cX4_init 53 = .ok (.putfield 36, 3) := dk_181 0 36 (dk_at dksX4_init_2 8 rfl rfl)
theorem dX4_init_56 : decode cX4_init 56 = .ok (.aload_n 0, 1) := dk_42 (dk_at dksX4_init_2 11 rfl rfl)
theorem dX4_init_57 : decode cX4_init 57 = .ok (.iconst 3, 1) := dk_6 (dk_at dksX4_init_2 12 rfl rfl)
theorem dX4_init_58 : decode cX4_init 58 = .ok (.newarray .long, 2) := dk_188_11 (dk_at dksX4_init_2 13 rfl rfl)
theorem dX4_init_60 : decode cX4_init 60 = .ok (.putfield 39, 3) := dk_181 0 39 (dk_at dksX4_init_2 15 rfl rfl)
theorem dX4_init_63 : decode cX4_init 63 = .ok (.return_, 1) := dk_177 (dk_at dksX4_init_2 18 rfl rfl)
abbrev cX4_fund : ByteArray := prog_3_method_12_code
def yX4_fund : MethodName := ⟨RX4, "fund", "()J"⟩
def dkwX4_fund_1 : List UInt8 := [101, 173]
abbrev dktX4_fund_1 : List UInt8 := dkwX4_fund_1 ++ []
def dkwX4_fund_0 : List UInt8 := [42, 182, 0, 206, 42, 180, 0, 39, 3, 47, 101, 42, 180, 0, 39, 4, 47, 101, 42, 180, 0, 39, 5, 47]
abbrev dktX4_fund_0 : List UInt8 := dkwX4_fund_0 ++ dktX4_fund_1
theorem dksX4_fund_0 : cX4_fund.data.toList.drop 0 = dktX4_fund_0 := by decide +kernel
theorem dksX4_fund_1 : cX4_fund.data.toList.drop 24 = dktX4_fund_1 := dk_seg dksX4_fund_0 24 rfl rfl
theorem dX4_fund_0 : decode cX4_fund 0 = .ok (.aload_n 0, 1) := dk_42 (dk_at dksX4_fund_0 0 rfl rfl)
theorem dX4_fund_1 : decode cX4_fund 1 = .ok (.invokevirtual 206, 3) := dk_182 0 206 (dk_at dksX4_fund_0 1 rfl rfl)
theorem dX4_fund_4 : decode cX4_fund 4 = .ok (.aload_n 0, 1) := dk_42 (dk_at dksX4_fund_0 4 rfl rfl)
theorem dX4_fund_5 : decode cX4_fund 5 = .ok (.getfield 39, 3) := dk_180 0 39 (dk_at dksX4_fund_0 5 rfl rfl)
theorem dX4_fund_8 : decode cX4_fund 8 = .ok (.iconst 0, 1) := dk_3 (dk_at dksX4_fund_0 8 rfl rfl)
theorem dX4_fund_9 : decode cX4_fund 9 = .ok (.laload, 1) := dk_47 (dk_at dksX4_fund_0 9 rfl rfl)
theorem dX4_fund_10 : decode cX4_fund 10 = .ok (.lsub, 1) := dk_101 (dk_at dksX4_fund_0 10 rfl rfl)
theorem dX4_fund_11 : decode cX4_fund 11 = .ok (.aload_n 0, 1) := dk_42 (dk_at dksX4_fund_0 11 rfl rfl)
theorem dX4_fund_12 : decode cX4_fund 12 = .ok (.getfield 39, 3) := dk_180 0 39 (dk_at dksX4_fund_0 12 rfl rfl)
theorem dX4_fund_15 : decode cX4_fund 15 = .ok (.iconst 1, 1) := dk_4 (dk_at dksX4_fund_0 15 rfl rfl)
theorem dX4_fund_16 : decode cX4_fund 16 = .ok (.laload, 1) := dk_47 (dk_at dksX4_fund_0 16 rfl rfl)
theorem dX4_fund_17 : decode cX4_fund 17 = .ok (.lsub, 1) := dk_101 (dk_at dksX4_fund_0 17 rfl rfl)
theorem dX4_fund_18 : decode cX4_fund 18 = .ok (.aload_n 0, 1) := dk_42 (dk_at dksX4_fund_0 18 rfl rfl)
theorem dX4_fund_19 : decode cX4_fund 19 = .ok (.getfield 39, 3) := dk_180 0 39 (dk_at dksX4_fund_0 19 rfl rfl)
theorem dX4_fund_22 : decode cX4_fund 22 = .ok (.iconst 2, 1) := dk_5 (dk_at dksX4_fund_0 22 rfl rfl)
theorem dX4_fund_23 : decode cX4_fund 23 = .ok (.laload, 1) := dk_47 (dk_at dksX4_fund_0 23 rfl rfl)
theorem dX4_fund_24 : decode cX4_fund 24 = .ok (.lsub, 1) := dk_101 (dk_at dksX4_fund_1 0 rfl rfl)
theorem dX4_fund_25 : decode cX4_fund 25 = .ok (.lreturn, 1) := dk_173 (dk_at dksX4_fund_1 1 rfl rfl)
abbrev cX4_contributions : ByteArray := prog_3_method_11_code
def yX4_contributions : MethodName := ⟨RX4, "contributions", "()J"⟩
def dkwX4_contributions_1 : List UInt8 := [185, 0, 52, 2, 0, 192, 0, 56, 180, 0, 158, 97, 64, 132, 3, 1, 167, 255, 221, 31, 173]
abbrev dktX4_contributions_1 : List UInt8 := dkwX4_contributions_1 ++ []
def dkwX4_contributions_0 : List UInt8 := [9, 64, 3, 62, 29, 42, 180, 0, 20, 185, 0, 46, 1, 0, 162, 0, 28, 31, 42, 180, 0, 20, 29]
abbrev dktX4_contributions_0 : List UInt8 := dkwX4_contributions_0 ++ dktX4_contributions_1
theorem dksX4_contributions_0 : cX4_contributions.data.toList.drop 0 = dktX4_contributions_0 := by decide +kernel
theorem dksX4_contributions_1 : cX4_contributions.data.toList.drop 23 = dktX4_contributions_1 := dk_seg dksX4_contributions_0 23 rfl rfl
theorem dX4_contributions_0 : decode cX4_contributions 0 = .ok (.lconst 0, 1) := dk_9 (dk_at dksX4_contributions_0 0 rfl rfl)
theorem dX4_contributions_1 : decode cX4_contributions 1 = .ok (.lstore_n 1, 1) := dk_64 (dk_at dksX4_contributions_0 1 rfl rfl)
theorem dX4_contributions_2 : decode cX4_contributions 2 = .ok (.iconst 0, 1) := dk_3 (dk_at dksX4_contributions_0 2 rfl rfl)
theorem dX4_contributions_3 : decode cX4_contributions 3 = .ok (.istore_n 3, 1) := dk_62 (dk_at dksX4_contributions_0 3 rfl rfl)
theorem dX4_contributions_4 : decode cX4_contributions 4 = .ok (.iload_n 3, 1) := dk_29 (dk_at dksX4_contributions_0 4 rfl rfl)
theorem dX4_contributions_5 : decode cX4_contributions 5 = .ok (.aload_n 0, 1) := dk_42 (dk_at dksX4_contributions_0 5 rfl rfl)
theorem dX4_contributions_6 : decode cX4_contributions 6 = .ok (.getfield 20, 3) := dk_180 0 20 (dk_at dksX4_contributions_0 6 rfl rfl)
theorem dX4_contributions_9 : decode cX4_contributions 9 = .ok (.invokeinterface 46 1, 5) := by decide +kernel
theorem dX4_contributions_14 : decode cX4_contributions 14 = .ok (.if_icmp .ge 28, 3) := dk_162 0 28 (dk_at dksX4_contributions_0 14 rfl rfl)
theorem dX4_contributions_17 : decode cX4_contributions 17 = .ok (.lload_n 1, 1) := dk_31 (dk_at dksX4_contributions_0 17 rfl rfl)
theorem dX4_contributions_18 : decode cX4_contributions 18 = .ok (.aload_n 0, 1) := dk_42 (dk_at dksX4_contributions_0 18 rfl rfl)
theorem dX4_contributions_19 : decode cX4_contributions 19 = .ok (.getfield 20, 3) := dk_180 0 20 (dk_at dksX4_contributions_0 19 rfl rfl)
theorem dX4_contributions_22 : decode cX4_contributions 22 = .ok (.iload_n 3, 1) := dk_29 (dk_at dksX4_contributions_0 22 rfl rfl)
theorem dX4_contributions_23 : decode cX4_contributions 23 = .ok (.invokeinterface 52 2, 5) := by decide +kernel
theorem dX4_contributions_28 : decode cX4_contributions 28 = .ok (.checkcast 56, 3) := dk_192 0 56 (dk_at dksX4_contributions_1 5 rfl rfl)
theorem dX4_contributions_31 : decode cX4_contributions 31 = .ok (.getfield 158, 3) := dk_180 0 158 (dk_at dksX4_contributions_1 8 rfl rfl)
theorem dX4_contributions_34 : decode cX4_contributions 34 = .ok (.ladd, 1) := dk_97 (dk_at dksX4_contributions_1 11 rfl rfl)
theorem dX4_contributions_35 : decode cX4_contributions 35 = .ok (.lstore_n 1, 1) := dk_64 (dk_at dksX4_contributions_1 12 rfl rfl)
theorem dX4_contributions_36 : decode cX4_contributions 36 = .ok (.iinc 3 1, 3) := dk_132 3 1 (dk_at dksX4_contributions_1 13 rfl rfl)
theorem dX4_contributions_39 : decode cX4_contributions 39 = .ok (.goto (-35), 3) := dk_167 255 221 (dk_at dksX4_contributions_1 16 rfl rfl)
theorem dX4_contributions_42 : decode cX4_contributions 42 = .ok (.lload_n 1, 1) := dk_31 (dk_at dksX4_contributions_1 19 rfl rfl)
theorem dX4_contributions_43 : decode cX4_contributions 43 = .ok (.lreturn, 1) := dk_173 (dk_at dksX4_contributions_1 20 rfl rfl)
abbrev cX4_copy : ByteArray := prog_3_method_2_code
def yX4_copy : MethodName := ⟨RX4, "copy", "()LFranchiseLedger$Books;"⟩
def dkwX4_copy_9 : List UInt8 := [42, 180, 0, 58, 181, 0, 58, 43, 176]
abbrev dktX4_copy_9 : List UInt8 := dkwX4_copy_9 ++ []
def dkwX4_copy_8 : List UInt8 := [184, 0, 89, 132, 2, 1, 167, 255, 228, 42, 180, 0, 39, 3, 43, 180, 0, 39, 3, 6, 184, 0, 89, 43]
abbrev dktX4_copy_8 : List UInt8 := dkwX4_copy_8 ++ dktX4_copy_9
def dkwX4_copy_7 : List UInt8 := [61, 28, 16, 8, 162, 0, 28, 42, 180, 0, 36, 28, 50, 3, 43, 180, 0, 36, 28, 50, 3, 16, 8]
abbrev dktX4_copy_7 : List UInt8 := dkwX4_copy_7 ++ dktX4_copy_8
def dkwX4_copy_6 : List UInt8 := [185, 0, 66, 2, 0, 87, 132, 2, 1, 167, 255, 175, 43, 180, 0, 30, 42, 180, 0, 30, 182, 0, 85, 3]
abbrev dktX4_copy_6 : List UInt8 := dkwX4_copy_6 ++ dktX4_copy_7
def dkwX4_copy_5 : List UInt8 := [180, 0, 75, 42, 180, 0, 24, 28, 185, 0, 52, 2, 0, 192, 0, 70, 180, 0, 78, 183, 0, 82]
abbrev dktX4_copy_5 : List UInt8 := dkwX4_copy_5 ++ dktX4_copy_6
def dkwX4_copy_4 : List UInt8 := [185, 0, 52, 2, 0, 192, 0, 70, 180, 0, 72, 42, 180, 0, 24, 28, 185, 0, 52, 2, 0, 192, 0, 70]
abbrev dktX4_copy_4 : List UInt8 := dkwX4_copy_4 ++ dktX4_copy_5
def dkwX4_copy_3 : List UInt8 := [185, 0, 46, 1, 0, 162, 0, 74, 43, 180, 0, 24, 187, 0, 70, 89, 42, 180, 0, 24, 28]
abbrev dktX4_copy_3 : List UInt8 := dkwX4_copy_3 ++ dktX4_copy_4
def dkwX4_copy_2 : List UInt8 := [182, 0, 62, 185, 0, 66, 2, 0, 87, 132, 2, 1, 167, 255, 210, 3, 61, 28, 42, 180, 0, 24]
abbrev dktX4_copy_2 : List UInt8 := dkwX4_copy_2 ++ dktX4_copy_3
def dkwX4_copy_1 : List UInt8 := [162, 0, 39, 43, 180, 0, 20, 42, 180, 0, 20, 28, 185, 0, 52, 2, 0, 192, 0, 56, 42, 180, 0, 58]
abbrev dktX4_copy_1 : List UInt8 := dkwX4_copy_1 ++ dktX4_copy_2
def dkwX4_copy_0 : List UInt8 := [187, 0, 4, 89, 42, 180, 0, 3, 183, 0, 43, 76, 3, 61, 28, 42, 180, 0, 20, 185, 0, 46, 1, 0]
abbrev dktX4_copy_0 : List UInt8 := dkwX4_copy_0 ++ dktX4_copy_1
theorem dksX4_copy_0 : cX4_copy.data.toList.drop 0 = dktX4_copy_0 := by decide +kernel
theorem dksX4_copy_1 : cX4_copy.data.toList.drop 24 = dktX4_copy_1 := dk_seg dksX4_copy_0 24 rfl rfl
theorem dksX4_copy_2 : cX4_copy.data.toList.drop 48 = dktX4_copy_2 := dk_seg dksX4_copy_1 24 rfl rfl
theorem dksX4_copy_3 : cX4_copy.data.toList.drop 70 = dktX4_copy_3 := dk_seg dksX4_copy_2 22 rfl rfl
theorem dksX4_copy_4 : cX4_copy.data.toList.drop 91 = dktX4_copy_4 := dk_seg dksX4_copy_3 21 rfl rfl
theorem dksX4_copy_5 : cX4_copy.data.toList.drop 115 = dktX4_copy_5 := dk_seg dksX4_copy_4 24 rfl rfl
theorem dksX4_copy_6 : cX4_copy.data.toList.drop 137 = dktX4_copy_6 := dk_seg dksX4_copy_5 22 rfl rfl
theorem dksX4_copy_7 : cX4_copy.data.toList.drop 161 = dktX4_copy_7 := dk_seg dksX4_copy_6 24 rfl rfl
theorem dksX4_copy_8 : cX4_copy.data.toList.drop 184 = dktX4_copy_8 := dk_seg dksX4_copy_7 23 rfl rfl
theorem dksX4_copy_9 : cX4_copy.data.toList.drop 208 = dktX4_copy_9 := dk_seg dksX4_copy_8 24 rfl rfl
theorem dX4_copy_0 : decode cX4_copy 0 = .ok (.new 4, 3) := dk_187 0 4 (dk_at dksX4_copy_0 0 rfl rfl)
theorem dX4_copy_3 : decode cX4_copy 3 = .ok (.dup, 1) := dk_89 (dk_at dksX4_copy_0 3 rfl rfl)
theorem dX4_copy_4 : decode cX4_copy 4 = .ok (.aload_n 0, 1) := dk_42 (dk_at dksX4_copy_0 4 rfl rfl)
theorem dX4_copy_5 : decode cX4_copy 5 = .ok (.getfield 3, 3) := dk_180 0 3 (dk_at dksX4_copy_0 5 rfl rfl)
theorem dX4_copy_8 : decode cX4_copy 8 = .ok (.invokespecial 43, 3) := dk_183 0 43 (dk_at dksX4_copy_0 8 rfl rfl)
theorem dX4_copy_11 : decode cX4_copy 11 = .ok (.astore_n 1, 1) := dk_76 (dk_at dksX4_copy_0 11 rfl rfl)
theorem dX4_copy_12 : decode cX4_copy 12 = .ok (.iconst 0, 1) := dk_3 (dk_at dksX4_copy_0 12 rfl rfl)
theorem dX4_copy_13 : decode cX4_copy 13 = .ok (.istore_n 2, 1) := dk_61 (dk_at dksX4_copy_0 13 rfl rfl)
theorem dX4_copy_14 : decode cX4_copy 14 = .ok (.iload_n 2, 1) := dk_28 (dk_at dksX4_copy_0 14 rfl rfl)
theorem dX4_copy_15 : decode cX4_copy 15 = .ok (.aload_n 0, 1) := dk_42 (dk_at dksX4_copy_0 15 rfl rfl)
theorem dX4_copy_16 : decode cX4_copy 16 = .ok (.getfield 20, 3) := dk_180 0 20 (dk_at dksX4_copy_0 16 rfl rfl)
theorem dX4_copy_19 : decode cX4_copy 19 = .ok (.invokeinterface 46 1, 5) := by decide +kernel
theorem dX4_copy_24 : decode cX4_copy 24 = .ok (.if_icmp .ge 39, 3) := dk_162 0 39 (dk_at dksX4_copy_1 0 rfl rfl)
theorem dX4_copy_27 : decode cX4_copy 27 = .ok (.aload_n 1, 1) := dk_43 (dk_at dksX4_copy_1 3 rfl rfl)
theorem dX4_copy_28 : decode cX4_copy 28 = .ok (.getfield 20, 3) := dk_180 0 20 (dk_at dksX4_copy_1 4 rfl rfl)
theorem dX4_copy_31 : decode cX4_copy 31 = .ok (.aload_n 0, 1) := dk_42 (dk_at dksX4_copy_1 7 rfl rfl)
theorem dX4_copy_32 : decode cX4_copy 32 = .ok (.getfield 20, 3) := dk_180 0 20 (dk_at dksX4_copy_1 8 rfl rfl)
theorem dX4_copy_35 : decode cX4_copy 35 = .ok (.iload_n 2, 1) := dk_28 (dk_at dksX4_copy_1 11 rfl rfl)
theorem dX4_copy_36 : decode cX4_copy 36 = .ok (.invokeinterface 52 2, 5) := by decide +kernel
theorem dX4_copy_41 : decode cX4_copy 41 = .ok (.checkcast 56, 3) := dk_192 0 56 (dk_at dksX4_copy_1 17 rfl rfl)
theorem dX4_copy_44 : decode cX4_copy 44 = .ok (.aload_n 0, 1) := dk_42 (dk_at dksX4_copy_1 20 rfl rfl)
theorem dX4_copy_45 : decode cX4_copy 45 = .ok (.getfield 58, 3) := dk_180 0 58 (dk_at dksX4_copy_1 21 rfl rfl)
theorem dX4_copy_48 : decode cX4_copy 48 = .ok (.invokevirtual 62, 3) := dk_182 0 62 (dk_at dksX4_copy_2 0 rfl rfl)
theorem dX4_copy_51 : decode cX4_copy 51 = .ok (.invokeinterface 66 2, 5) := by decide +kernel
theorem dX4_copy_56 : decode cX4_copy 56 = .ok (.pop, 1) := dk_87 (dk_at dksX4_copy_2 8 rfl rfl)
theorem dX4_copy_57 : decode cX4_copy 57 = .ok (.iinc 2 1, 3) := dk_132 2 1 (dk_at dksX4_copy_2 9 rfl rfl)
theorem dX4_copy_60 : decode cX4_copy 60 = .ok (.goto (-46), 3) := dk_167 255 210 (dk_at dksX4_copy_2 12 rfl rfl)
theorem dX4_copy_63 : decode cX4_copy 63 = .ok (.iconst 0, 1) := dk_3 (dk_at dksX4_copy_2 15 rfl rfl)
theorem dX4_copy_64 : decode cX4_copy 64 = .ok (.istore_n 2, 1) := dk_61 (dk_at dksX4_copy_2 16 rfl rfl)
theorem dX4_copy_65 : decode cX4_copy 65 = .ok (.iload_n 2, 1) := dk_28 (dk_at dksX4_copy_2 17 rfl rfl)
theorem dX4_copy_66 : decode cX4_copy 66 = .ok (.aload_n 0, 1) := dk_42 (dk_at dksX4_copy_2 18 rfl rfl)
theorem dX4_copy_67 : decode cX4_copy 67 = .ok (.getfield 24, 3) := dk_180 0 24 (dk_at dksX4_copy_2 19 rfl rfl)
theorem dX4_copy_70 : decode cX4_copy 70 = .ok (.invokeinterface 46 1, 5) := by decide +kernel
theorem dX4_copy_75 : decode cX4_copy 75 = .ok (.if_icmp .ge 74, 3) := dk_162 0 74 (dk_at dksX4_copy_3 5 rfl rfl)
theorem dX4_copy_78 : decode cX4_copy 78 = .ok (.aload_n 1, 1) := dk_43 (dk_at dksX4_copy_3 8 rfl rfl)
theorem dX4_copy_79 : decode cX4_copy 79 = .ok (.getfield 24, 3) := dk_180 0 24 (dk_at dksX4_copy_3 9 rfl rfl)
theorem dX4_copy_82 : decode cX4_copy 82 = .ok (.new 70, 3) := dk_187 0 70 (dk_at dksX4_copy_3 12 rfl rfl)
theorem dX4_copy_85 : decode cX4_copy 85 = .ok (.dup, 1) := dk_89 (dk_at dksX4_copy_3 15 rfl rfl)
theorem dX4_copy_86 : decode cX4_copy 86 = .ok (.aload_n 0, 1) := dk_42 (dk_at dksX4_copy_3 16 rfl rfl)
theorem dX4_copy_87 : decode cX4_copy 87 = .ok (.getfield 24, 3) := dk_180 0 24 (dk_at dksX4_copy_3 17 rfl rfl)
theorem dX4_copy_90 : decode cX4_copy 90 = .ok (.iload_n 2, 1) := dk_28 (dk_at dksX4_copy_3 20 rfl rfl)
theorem dX4_copy_91 : decode cX4_copy 91 = .ok (.invokeinterface 52 2, 5) := by decide +kernel
theorem dX4_copy_96 : decode cX4_copy 96 = .ok (.checkcast 70, 3) := dk_192 0 70 (dk_at dksX4_copy_4 5 rfl rfl)
theorem dX4_copy_99 : decode cX4_copy 99 = .ok (.getfield 72, 3) := dk_180 0 72 (dk_at dksX4_copy_4 8 rfl rfl)
theorem dX4_copy_102 : decode cX4_copy 102 = .ok (.aload_n 0, 1) := dk_42 (dk_at dksX4_copy_4 11 rfl rfl)
theorem dX4_copy_103 : decode cX4_copy 103 = .ok (.getfield 24, 3) := dk_180 0 24 (dk_at dksX4_copy_4 12 rfl rfl)
theorem dX4_copy_106 : decode cX4_copy 106 = .ok (.iload_n 2, 1) := dk_28 (dk_at dksX4_copy_4 15 rfl rfl)
theorem dX4_copy_107 : decode cX4_copy 107 = .ok (.invokeinterface 52 2, 5) := by decide +kernel
theorem dX4_copy_112 : decode cX4_copy 112 = .ok (.checkcast 70, 3) := dk_192 0 70 (dk_at dksX4_copy_4 21 rfl rfl)
theorem dX4_copy_115 : decode cX4_copy 115 = .ok (.getfield 75, 3) := dk_180 0 75 (dk_at dksX4_copy_5 0 rfl rfl)
theorem dX4_copy_118 : decode cX4_copy 118 = .ok (.aload_n 0, 1) := dk_42 (dk_at dksX4_copy_5 3 rfl rfl)
theorem dX4_copy_119 : decode cX4_copy 119 = .ok (.getfield 24, 3) := dk_180 0 24 (dk_at dksX4_copy_5 4 rfl rfl)
theorem dX4_copy_122 : decode cX4_copy 122 = .ok (.iload_n 2, 1) := dk_28 (dk_at dksX4_copy_5 7 rfl rfl)
theorem dX4_copy_123 : decode cX4_copy 123 = .ok (.invokeinterface 52 2, 5) := by decide +kernel
theorem dX4_copy_128 : decode cX4_copy 128 = .ok (.checkcast 70, 3) := dk_192 0 70 (dk_at dksX4_copy_5 13 rfl rfl)
theorem dX4_copy_131 : decode cX4_copy 131 = .ok (.getfield 78, 3) := dk_180 0 78 (dk_at dksX4_copy_5 16 rfl rfl)
theorem dX4_copy_134 : decode cX4_copy 134 = .ok (.invokespecial 82, 3) := dk_183 0 82 (dk_at dksX4_copy_5 19 rfl rfl)
theorem dX4_copy_137 : decode cX4_copy 137 = .ok (.invokeinterface 66 2, 5) := by decide +kernel
theorem dX4_copy_142 : decode cX4_copy 142 = .ok (.pop, 1) := dk_87 (dk_at dksX4_copy_6 5 rfl rfl)
theorem dX4_copy_143 : decode cX4_copy 143 = .ok (.iinc 2 1, 3) := dk_132 2 1 (dk_at dksX4_copy_6 6 rfl rfl)
theorem dX4_copy_146 : decode cX4_copy 146 = .ok (.goto (-81), 3) := dk_167 255 175 (dk_at dksX4_copy_6 9 rfl rfl)
theorem dX4_copy_149 : decode cX4_copy 149 = .ok (.aload_n 1, 1) := dk_43 (dk_at dksX4_copy_6 12 rfl rfl)
theorem dX4_copy_150 : decode cX4_copy 150 = .ok (.getfield 30, 3) := dk_180 0 30 (dk_at dksX4_copy_6 13 rfl rfl)
theorem dX4_copy_153 : decode cX4_copy 153 = .ok (.aload_n 0, 1) := dk_42 (dk_at dksX4_copy_6 16 rfl rfl)
theorem dX4_copy_154 : decode cX4_copy 154 = .ok (.getfield 30, 3) := dk_180 0 30 (dk_at dksX4_copy_6 17 rfl rfl)
theorem dX4_copy_157 : decode cX4_copy 157 = .ok (.invokevirtual 85, 3) := dk_182 0 85 (dk_at dksX4_copy_6 20 rfl rfl)
theorem dX4_copy_160 : decode cX4_copy 160 = .ok (.iconst 0, 1) := dk_3 (dk_at dksX4_copy_6 23 rfl rfl)
theorem dX4_copy_161 : decode cX4_copy 161 = .ok (.istore_n 2, 1) := dk_61 (dk_at dksX4_copy_7 0 rfl rfl)
theorem dX4_copy_162 : decode cX4_copy 162 = .ok (.iload_n 2, 1) := dk_28 (dk_at dksX4_copy_7 1 rfl rfl)
theorem dX4_copy_163 : decode cX4_copy 163 = .ok (.bipush 8, 2) := dk_16 8 (dk_at dksX4_copy_7 2 rfl rfl)
theorem dX4_copy_165 : decode cX4_copy 165 = .ok (.if_icmp .ge 28, 3) := dk_162 0 28 (dk_at dksX4_copy_7 4 rfl rfl)
theorem dX4_copy_168 : decode cX4_copy 168 = .ok (.aload_n 0, 1) := dk_42 (dk_at dksX4_copy_7 7 rfl rfl)
theorem dX4_copy_169 : decode cX4_copy 169 = .ok (.getfield 36, 3) := dk_180 0 36 (dk_at dksX4_copy_7 8 rfl rfl)
theorem dX4_copy_172 : decode cX4_copy 172 = .ok (.iload_n 2, 1) := dk_28 (dk_at dksX4_copy_7 11 rfl rfl)
theorem dX4_copy_173 : decode cX4_copy 173 = .ok (.aaload, 1) := dk_50 (dk_at dksX4_copy_7 12 rfl rfl)
theorem dX4_copy_174 : decode cX4_copy 174 = .ok (.iconst 0, 1) := dk_3 (dk_at dksX4_copy_7 13 rfl rfl)
theorem dX4_copy_175 : decode cX4_copy 175 = .ok (.aload_n 1, 1) := dk_43 (dk_at dksX4_copy_7 14 rfl rfl)
theorem dX4_copy_176 : decode cX4_copy 176 = .ok (.getfield 36, 3) := dk_180 0 36 (dk_at dksX4_copy_7 15 rfl rfl)
theorem dX4_copy_179 : decode cX4_copy 179 = .ok (.iload_n 2, 1) := dk_28 (dk_at dksX4_copy_7 18 rfl rfl)
theorem dX4_copy_180 : decode cX4_copy 180 = .ok (.aaload, 1) := dk_50 (dk_at dksX4_copy_7 19 rfl rfl)
theorem dX4_copy_181 : decode cX4_copy 181 = .ok (.iconst 0, 1) := dk_3 (dk_at dksX4_copy_7 20 rfl rfl)
theorem dX4_copy_182 : decode cX4_copy 182 = .ok (.bipush 8, 2) := dk_16 8 (dk_at dksX4_copy_7 21 rfl rfl)
theorem dX4_copy_184 : decode cX4_copy 184 = .ok (.invokestatic 89, 3) := dk_184 0 89 (dk_at dksX4_copy_8 0 rfl rfl)
theorem dX4_copy_187 : decode cX4_copy 187 = .ok (.iinc 2 1, 3) := dk_132 2 1 (dk_at dksX4_copy_8 3 rfl rfl)
theorem dX4_copy_190 : decode cX4_copy 190 = .ok (.goto (-28), 3) := dk_167 255 228 (dk_at dksX4_copy_8 6 rfl rfl)
theorem dX4_copy_193 : decode cX4_copy 193 = .ok (.aload_n 0, 1) := dk_42 (dk_at dksX4_copy_8 9 rfl rfl)
theorem dX4_copy_194 : decode cX4_copy 194 = .ok (.getfield 39, 3) := dk_180 0 39 (dk_at dksX4_copy_8 10 rfl rfl)
theorem dX4_copy_197 : decode cX4_copy 197 = .ok (.iconst 0, 1) := dk_3 (dk_at dksX4_copy_8 13 rfl rfl)
theorem dX4_copy_198 : decode cX4_copy 198 = .ok (.aload_n 1, 1) := dk_43 (dk_at dksX4_copy_8 14 rfl rfl)
theorem dX4_copy_199 : decode cX4_copy 199 = .ok (.getfield 39, 3) := dk_180 0 39 (dk_at dksX4_copy_8 15 rfl rfl)
theorem dX4_copy_202 : decode cX4_copy 202 = .ok (.iconst 0, 1) := dk_3 (dk_at dksX4_copy_8 18 rfl rfl)
theorem dX4_copy_203 : decode cX4_copy 203 = .ok (.iconst 3, 1) := dk_6 (dk_at dksX4_copy_8 19 rfl rfl)
theorem dX4_copy_204 : decode cX4_copy 204 = .ok (.invokestatic 89, 3) := dk_184 0 89 (dk_at dksX4_copy_8 20 rfl rfl)
theorem dX4_copy_207 : decode cX4_copy 207 = .ok (.aload_n 1, 1) := dk_43 (dk_at dksX4_copy_8 23 rfl rfl)
theorem dX4_copy_208 : decode cX4_copy 208 = .ok (.aload_n 0, 1) := dk_42 (dk_at dksX4_copy_9 0 rfl rfl)
theorem dX4_copy_209 : decode cX4_copy 209 = .ok (.getfield 58, 3) := dk_180 0 58 (dk_at dksX4_copy_9 1 rfl rfl)
theorem dX4_copy_212 : decode cX4_copy 212 = .ok (.putfield 58, 3) := dk_181 0 58 (dk_at dksX4_copy_9 4 rfl rfl)
theorem dX4_copy_215 : decode cX4_copy 215 = .ok (.aload_n 1, 1) := dk_43 (dk_at dksX4_copy_9 7 rfl rfl)
theorem dX4_copy_216 : decode cX4_copy 216 = .ok (.areturn, 1) := dk_176 (dk_at dksX4_copy_9 8 rfl rfl)
abbrev cX4_hasOutlet : ByteArray := prog_3_method_13_code
def yX4_hasOutlet : MethodName := ⟨RX4, "hasOutlet", "(I)Z"⟩
def dkwX4_hasOutlet_2 : List UInt8 := [192, 0, 70, 180, 0, 72, 27, 160, 0, 5, 4, 172, 132, 2, 1, 167, 255, 199, 3, 172]
abbrev dktX4_hasOutlet_2 : List UInt8 := dkwX4_hasOutlet_2 ++ []
def dkwX4_hasOutlet_1 : List UInt8 := [185, 0, 52, 2, 0, 192, 0, 70, 182, 0, 209, 153, 0, 25, 42, 180, 0, 24, 28, 185, 0, 52, 2, 0]
abbrev dktX4_hasOutlet_1 : List UInt8 := dkwX4_hasOutlet_1 ++ dktX4_hasOutlet_2
def dkwX4_hasOutlet_0 : List UInt8 := [3, 61, 28, 42, 180, 0, 24, 185, 0, 46, 1, 0, 162, 0, 50, 42, 180, 0, 24, 28]
abbrev dktX4_hasOutlet_0 : List UInt8 := dkwX4_hasOutlet_0 ++ dktX4_hasOutlet_1
theorem dksX4_hasOutlet_0 : cX4_hasOutlet.data.toList.drop 0 = dktX4_hasOutlet_0 := by decide +kernel
theorem dksX4_hasOutlet_1 : cX4_hasOutlet.data.toList.drop 20 = dktX4_hasOutlet_1 := dk_seg dksX4_hasOutlet_0 20 rfl rfl
theorem dksX4_hasOutlet_2 : cX4_hasOutlet.data.toList.drop 44 = dktX4_hasOutlet_2 := dk_seg dksX4_hasOutlet_1 24 rfl rfl
theorem dX4_hasOutlet_0 : decode cX4_hasOutlet 0 = .ok (.iconst 0, 1) := dk_3 (dk_at dksX4_hasOutlet_0 0 rfl rfl)
theorem dX4_hasOutlet_1 : decode cX4_hasOutlet 1 = .ok (.istore_n 2, 1) := dk_61 (dk_at dksX4_hasOutlet_0 1 rfl rfl)
theorem dX4_hasOutlet_2 : decode cX4_hasOutlet 2 = .ok (.iload_n 2, 1) := dk_28 (dk_at dksX4_hasOutlet_0 2 rfl rfl)
theorem dX4_hasOutlet_3 : decode cX4_hasOutlet 3 = .ok (.aload_n 0, 1) := dk_42 (dk_at dksX4_hasOutlet_0 3 rfl rfl)
theorem dX4_hasOutlet_4 : decode cX4_hasOutlet 4 = .ok (.getfield 24, 3) := dk_180 0 24 (dk_at dksX4_hasOutlet_0 4 rfl rfl)
theorem dX4_hasOutlet_7 : decode cX4_hasOutlet 7 = .ok (.invokeinterface 46 1, 5) := by decide +kernel
theorem dX4_hasOutlet_12 : decode cX4_hasOutlet 12 = .ok (.if_icmp .ge 50, 3) := dk_162 0 50 (dk_at dksX4_hasOutlet_0 12 rfl rfl)
theorem dX4_hasOutlet_15 : decode cX4_hasOutlet 15 = .ok (.aload_n 0, 1) := dk_42 (dk_at dksX4_hasOutlet_0 15 rfl rfl)
theorem dX4_hasOutlet_16 : decode cX4_hasOutlet 16 = .ok (.getfield 24, 3) := dk_180 0 24 (dk_at dksX4_hasOutlet_0 16 rfl rfl)
theorem dX4_hasOutlet_19 : decode cX4_hasOutlet 19 = .ok (.iload_n 2, 1) := dk_28 (dk_at dksX4_hasOutlet_0 19 rfl rfl)
theorem dX4_hasOutlet_20 : decode cX4_hasOutlet 20 = .ok (.invokeinterface 52 2, 5) := by decide +kernel
theorem dX4_hasOutlet_25 : decode cX4_hasOutlet 25 = .ok (.checkcast 70, 3) := dk_192 0 70 (dk_at dksX4_hasOutlet_1 5 rfl rfl)
theorem dX4_hasOutlet_28 : decode cX4_hasOutlet 28 = .ok (.invokevirtual 209, 3) := dk_182 0 209 (dk_at dksX4_hasOutlet_1 8 rfl rfl)
theorem dX4_hasOutlet_31 : decode cX4_hasOutlet 31 = .ok (.ifCond .eq 25, 3) := dk_153 0 25 (dk_at dksX4_hasOutlet_1 11 rfl rfl)
theorem dX4_hasOutlet_34 : decode cX4_hasOutlet 34 = .ok (.aload_n 0, 1) := dk_42 (dk_at dksX4_hasOutlet_1 14 rfl rfl)
theorem dX4_hasOutlet_35 : decode cX4_hasOutlet 35 = .ok (.getfield 24, 3) := dk_180 0 24 (dk_at dksX4_hasOutlet_1 15 rfl rfl)
theorem dX4_hasOutlet_38 : decode cX4_hasOutlet 38 = .ok (.iload_n 2, 1) := dk_28 (dk_at dksX4_hasOutlet_1 18 rfl rfl)
theorem dX4_hasOutlet_39 : decode cX4_hasOutlet 39 = .ok (.invokeinterface 52 2, 5) := by decide +kernel
theorem dX4_hasOutlet_44 : decode cX4_hasOutlet 44 = .ok (.checkcast 70, 3) := dk_192 0 70 (dk_at dksX4_hasOutlet_2 0 rfl rfl)
theorem dX4_hasOutlet_47 : decode cX4_hasOutlet 47 = .ok (.getfield 72, 3) := dk_180 0 72 (dk_at dksX4_hasOutlet_2 3 rfl rfl)
theorem dX4_hasOutlet_50 : decode cX4_hasOutlet 50 = .ok (.iload_n 1, 1) := dk_27 (dk_at dksX4_hasOutlet_2 6 rfl rfl)
theorem dX4_hasOutlet_51 : decode cX4_hasOutlet 51 = .ok (.if_icmp .ne 5, 3) := dk_160 0 5 (dk_at dksX4_hasOutlet_2 7 rfl rfl)
theorem dX4_hasOutlet_54 : decode cX4_hasOutlet 54 = .ok (.iconst 1, 1) := dk_4 (dk_at dksX4_hasOutlet_2 10 rfl rfl)
theorem dX4_hasOutlet_55 : decode cX4_hasOutlet 55 = .ok (.ireturn, 1) := dk_172 (dk_at dksX4_hasOutlet_2 11 rfl rfl)
theorem dX4_hasOutlet_56 : decode cX4_hasOutlet 56 = .ok (.iinc 2 1, 3) := dk_132 2 1 (dk_at dksX4_hasOutlet_2 12 rfl rfl)
theorem dX4_hasOutlet_59 : decode cX4_hasOutlet 59 = .ok (.goto (-57), 3) := dk_167 255 199 (dk_at dksX4_hasOutlet_2 15 rfl rfl)
theorem dX4_hasOutlet_62 : decode cX4_hasOutlet 62 = .ok (.iconst 0, 1) := dk_3 (dk_at dksX4_hasOutlet_2 18 rfl rfl)
theorem dX4_hasOutlet_63 : decode cX4_hasOutlet 63 = .ok (.ireturn, 1) := dk_172 (dk_at dksX4_hasOutlet_2 19 rfl rfl)
abbrev cX4_close : ByteArray := prog_3_method_10_code
def yX4_close : MethodName := ⟨RX4, "close", "()V"⟩
def dkwX4_close_9 : List UInt8 := [185, 0, 52, 2, 0, 192, 0, 56, 180, 0, 147, 80, 132, 3, 1, 167, 255, 183, 42, 182, 0, 203, 177]
abbrev dktX4_close_9 : List UInt8 := dkwX4_close_9 ++ []
def dkwX4_close_8 : List UInt8 := [185, 0, 52, 2, 0, 192, 0, 56, 180, 0, 186, 42, 180, 0, 58, 50, 16, 6, 42, 180, 0, 20, 29]
abbrev dktX4_close_8 : List UInt8 := dkwX4_close_8 ++ dktX4_close_9
def dkwX4_close_7 : List UInt8 := [180, 0, 20, 29, 185, 0, 52, 2, 0, 192, 0, 56, 182, 0, 200, 42, 180, 0, 20, 29]
abbrev dktX4_close_7 : List UInt8 := dkwX4_close_7 ++ dktX4_close_8
def dkwX4_close_6 : List UInt8 := [182, 0, 118, 97, 80, 3, 62, 29, 42, 180, 0, 20, 185, 0, 46, 1, 0, 162, 0, 66, 42, 42]
abbrev dktX4_close_6 : List UInt8 := dkwX4_close_6 ++ dktX4_close_7
def dkwX4_close_5 : List UInt8 := [132, 3, 1, 167, 255, 191, 42, 180, 0, 39, 3, 92, 47, 42, 180, 0, 3, 180, 0, 95, 180, 0, 197, 31]
abbrev dktX4_close_5 : List UInt8 := dkwX4_close_5 ++ dktX4_close_6
def dkwX4_close_4 : List UInt8 := [180, 0, 20, 29, 185, 0, 52, 2, 0, 192, 0, 56, 25, 4, 182, 0, 193, 31, 25, 4, 4, 47, 97, 64]
abbrev dktX4_close_4 : List UInt8 := dkwX4_close_4 ++ dktX4_close_5
def dkwX4_close_3 : List UInt8 := [180, 0, 20, 29, 185, 0, 52, 2, 0, 192, 0, 56, 180, 0, 186, 42, 180, 0, 58, 50, 58, 4, 42, 42]
abbrev dktX4_close_3 : List UInt8 := dkwX4_close_3 ++ dktX4_close_4
def dkwX4_close_2 : List UInt8 := [132, 3, 1, 167, 255, 212, 3, 62, 29, 42, 180, 0, 20, 185, 0, 46, 1, 0, 162, 0, 58, 42]
abbrev dktX4_close_2 : List UInt8 := dkwX4_close_2 ++ dktX4_close_3
def dkwX4_close_1 : List UInt8 := [185, 0, 52, 2, 0, 192, 0, 56, 180, 0, 186, 42, 180, 0, 58, 42, 29, 16, 100, 182, 0, 189, 83]
abbrev dktX4_close_1 : List UInt8 := dkwX4_close_1 ++ dktX4_close_2
def dkwX4_close_0 : List UInt8 := [9, 64, 3, 62, 29, 42, 180, 0, 20, 185, 0, 46, 1, 0, 162, 0, 37, 42, 180, 0, 20, 29]
abbrev dktX4_close_0 : List UInt8 := dkwX4_close_0 ++ dktX4_close_1
theorem dksX4_close_0 : cX4_close.data.toList.drop 0 = dktX4_close_0 := by decide +kernel
theorem dksX4_close_1 : cX4_close.data.toList.drop 22 = dktX4_close_1 := dk_seg dksX4_close_0 22 rfl rfl
theorem dksX4_close_2 : cX4_close.data.toList.drop 45 = dktX4_close_2 := dk_seg dksX4_close_1 23 rfl rfl
theorem dksX4_close_3 : cX4_close.data.toList.drop 67 = dktX4_close_3 := dk_seg dksX4_close_2 22 rfl rfl
theorem dksX4_close_4 : cX4_close.data.toList.drop 91 = dktX4_close_4 := dk_seg dksX4_close_3 24 rfl rfl
theorem dksX4_close_5 : cX4_close.data.toList.drop 115 = dktX4_close_5 := dk_seg dksX4_close_4 24 rfl rfl
theorem dksX4_close_6 : cX4_close.data.toList.drop 139 = dktX4_close_6 := dk_seg dksX4_close_5 24 rfl rfl
theorem dksX4_close_7 : cX4_close.data.toList.drop 161 = dktX4_close_7 := dk_seg dksX4_close_6 22 rfl rfl
theorem dksX4_close_8 : cX4_close.data.toList.drop 181 = dktX4_close_8 := dk_seg dksX4_close_7 20 rfl rfl
theorem dksX4_close_9 : cX4_close.data.toList.drop 204 = dktX4_close_9 := dk_seg dksX4_close_8 23 rfl rfl
theorem dX4_close_0 : decode cX4_close 0 = .ok (.lconst 0, 1) := dk_9 (dk_at dksX4_close_0 0 rfl rfl)
theorem dX4_close_1 : decode cX4_close 1 = .ok (.lstore_n 1, 1) := dk_64 (dk_at dksX4_close_0 1 rfl rfl)
theorem dX4_close_2 : decode cX4_close 2 = .ok (.iconst 0, 1) := dk_3 (dk_at dksX4_close_0 2 rfl rfl)
theorem dX4_close_3 : decode cX4_close 3 = .ok (.istore_n 3, 1) := dk_62 (dk_at dksX4_close_0 3 rfl rfl)
theorem dX4_close_4 : decode cX4_close 4 = .ok (.iload_n 3, 1) := dk_29 (dk_at dksX4_close_0 4 rfl rfl)
theorem dX4_close_5 : decode cX4_close 5 = .ok (.aload_n 0, 1) := dk_42 (dk_at dksX4_close_0 5 rfl rfl)
theorem dX4_close_6 : decode cX4_close 6 = .ok (.getfield 20, 3) := dk_180 0 20 (dk_at dksX4_close_0 6 rfl rfl)
theorem dX4_close_9 : decode cX4_close 9 = .ok (.invokeinterface 46 1, 5) := by decide +kernel
theorem dX4_close_14 : decode cX4_close 14 = .ok (.if_icmp .ge 37, 3) := dk_162 0 37 (dk_at dksX4_close_0 14 rfl rfl)
theorem dX4_close_17 : decode cX4_close 17 = .ok (.aload_n 0, 1) := dk_42 (dk_at dksX4_close_0 17 rfl rfl)
theorem dX4_close_18 : decode cX4_close 18 = .ok (.getfield 20, 3) := dk_180 0 20 (dk_at dksX4_close_0 18 rfl rfl)
theorem dX4_close_21 : decode cX4_close 21 = .ok (.iload_n 3, 1) := dk_29 (dk_at dksX4_close_0 21 rfl rfl)
theorem dX4_close_22 : decode cX4_close 22 = .ok (.invokeinterface 52 2, 5) := by decide +kernel
theorem dX4_close_27 : decode cX4_close 27 = .ok (.checkcast 56, 3) := dk_192 0 56 (dk_at dksX4_close_1 5 rfl rfl)
theorem dX4_close_30 : decode cX4_close 30 = .ok (.getfield 186, 3) := dk_180 0 186 (dk_at dksX4_close_1 8 rfl rfl)
theorem dX4_close_33 : decode cX4_close 33 = .ok (.aload_n 0, 1) := dk_42 (dk_at dksX4_close_1 11 rfl rfl)
theorem dX4_close_34 : decode cX4_close 34 = .ok (.getfield 58, 3) := dk_180 0 58 (dk_at dksX4_close_1 12 rfl rfl)
theorem dX4_close_37 : decode cX4_close 37 = .ok (.aload_n 0, 1) := dk_42 (dk_at dksX4_close_1 15 rfl rfl)
theorem dX4_close_38 : decode cX4_close 38 = .ok (.iload_n 3, 1) := dk_29 (dk_at dksX4_close_1 16 rfl rfl)
theorem dX4_close_39 : decode cX4_close 39 = .ok (.bipush 100, 2) := dk_16 100 (dk_at dksX4_close_1 17 rfl rfl)
theorem dX4_close_41 : decode cX4_close 41 = .ok (.invokevirtual 189, 3) := dk_182 0 189 (dk_at dksX4_close_1 19 rfl rfl)
theorem dX4_close_44 : decode cX4_close 44 = .ok (.aastore, 1) := dk_83 (dk_at dksX4_close_1 22 rfl rfl)
theorem dX4_close_45 : decode cX4_close 45 = .ok (.iinc 3 1, 3) := dk_132 3 1 (dk_at dksX4_close_2 0 rfl rfl)
theorem dX4_close_48 : decode cX4_close 48 = .ok (.goto (-44), 3) := dk_167 255 212 (dk_at dksX4_close_2 3 rfl rfl)
theorem dX4_close_51 : decode cX4_close 51 = .ok (.iconst 0, 1) := dk_3 (dk_at dksX4_close_2 6 rfl rfl)
theorem dX4_close_52 : decode cX4_close 52 = .ok (.istore_n 3, 1) := dk_62 (dk_at dksX4_close_2 7 rfl rfl)
theorem dX4_close_53 : decode cX4_close 53 = .ok (.iload_n 3, 1) := dk_29 (dk_at dksX4_close_2 8 rfl rfl)
theorem dX4_close_54 : decode cX4_close 54 = .ok (.aload_n 0, 1) := dk_42 (dk_at dksX4_close_2 9 rfl rfl)
theorem dX4_close_55 : decode cX4_close 55 = .ok (.getfield 20, 3) := dk_180 0 20 (dk_at dksX4_close_2 10 rfl rfl)
theorem dX4_close_58 : decode cX4_close 58 = .ok (.invokeinterface 46 1, 5) := by decide +kernel
theorem dX4_close_63 : decode cX4_close 63 = .ok (.if_icmp .ge 58, 3) := dk_162 0 58 (dk_at dksX4_close_2 18 rfl rfl)
theorem dX4_close_66 : decode cX4_close 66 = .ok (.aload_n 0, 1) := dk_42 (dk_at dksX4_close_2 21 rfl rfl)
theorem dX4_close_67 : decode cX4_close 67 = .ok (.getfield 20, 3) := dk_180 0 20 (dk_at dksX4_close_3 0 rfl rfl)
theorem dX4_close_70 : decode cX4_close 70 = .ok (.iload_n 3, 1) := dk_29 (dk_at dksX4_close_3 3 rfl rfl)
theorem dX4_close_71 : decode cX4_close 71 = .ok (.invokeinterface 52 2, 5) := by decide +kernel
theorem dX4_close_76 : decode cX4_close 76 = .ok (.checkcast 56, 3) := dk_192 0 56 (dk_at dksX4_close_3 9 rfl rfl)
theorem dX4_close_79 : decode cX4_close 79 = .ok (.getfield 186, 3) := dk_180 0 186 (dk_at dksX4_close_3 12 rfl rfl)
theorem dX4_close_82 : decode cX4_close 82 = .ok (.aload_n 0, 1) := dk_42 (dk_at dksX4_close_3 15 rfl rfl)
theorem dX4_close_83 : decode cX4_close 83 = .ok (.getfield 58, 3) := dk_180 0 58 (dk_at dksX4_close_3 16 rfl rfl)
theorem dX4_close_86 : decode cX4_close 86 = .ok (.aaload, 1) := dk_50 (dk_at dksX4_close_3 19 rfl rfl)
theorem dX4_close_87 : decode cX4_close 87 = .ok (.astore 4, 2) := dk_58 4 (dk_at dksX4_close_3 20 rfl rfl)
theorem dX4_close_89 : decode cX4_close 89 = .ok (.aload_n 0, 1) := dk_42 (dk_at dksX4_close_3 22 rfl rfl)
theorem dX4_close_90 : decode cX4_close 90 = .ok (.aload_n 0, 1) := dk_42 (dk_at dksX4_close_3 23 rfl rfl)
theorem dX4_close_91 : decode cX4_close 91 = .ok (.getfield 20, 3) := dk_180 0 20 (dk_at dksX4_close_4 0 rfl rfl)
theorem dX4_close_94 : decode cX4_close 94 = .ok (.iload_n 3, 1) := dk_29 (dk_at dksX4_close_4 3 rfl rfl)
theorem dX4_close_95 : decode cX4_close 95 = .ok (.invokeinterface 52 2, 5) := by decide +kernel
theorem dX4_close_100 : decode cX4_close 100 = .ok (.checkcast 56, 3) := dk_192 0 56 (dk_at dksX4_close_4 9 rfl rfl)
theorem dX4_close_103 : decode cX4_close 103 = .ok (.aload 4, 2) := dk_25 4 (dk_at dksX4_close_4 12 rfl rfl)
theorem dX4_close_105 : decode cX4_close 105 = .ok (.invokevirtual 193, 3) := dk_182 0 193 (dk_at dksX4_close_4 14 rfl rfl)
theorem dX4_close_108 : decode cX4_close 108 = .ok (.lload_n 1, 1) := dk_31 (dk_at dksX4_close_4 17 rfl rfl)
theorem dX4_close_109 : decode cX4_close 109 = .ok (.aload 4, 2) := dk_25 4 (dk_at dksX4_close_4 18 rfl rfl)
theorem dX4_close_111 : decode cX4_close 111 = .ok (.iconst 1, 1) := dk_4 (dk_at dksX4_close_4 20 rfl rfl)
theorem dX4_close_112 : decode cX4_close 112 = .ok (.laload, 1) := dk_47 (dk_at dksX4_close_4 21 rfl rfl)
theorem dX4_close_113 : decode cX4_close 113 = .ok (.ladd, 1) := dk_97 (dk_at dksX4_close_4 22 rfl rfl)
theorem dX4_close_114 : decode cX4_close 114 = .ok (.lstore_n 1, 1) := dk_64 (dk_at dksX4_close_4 23 rfl rfl)
theorem dX4_close_115 : decode cX4_close 115 = .ok (.iinc 3 1, 3) := dk_132 3 1 (dk_at dksX4_close_5 0 rfl rfl)
theorem dX4_close_118 : decode cX4_close 118 = .ok (.goto (-65), 3) := dk_167 255 191 (dk_at dksX4_close_5 3 rfl rfl)
theorem dX4_close_121 : decode cX4_close 121 = .ok (.aload_n 0, 1) := dk_42 (dk_at dksX4_close_5 6 rfl rfl)
theorem dX4_close_122 : decode cX4_close 122 = .ok (.getfield 39, 3) := dk_180 0 39 (dk_at dksX4_close_5 7 rfl rfl)
theorem dX4_close_125 : decode cX4_close 125 = .ok (.iconst 0, 1) := dk_3 (dk_at dksX4_close_5 10 rfl rfl)
theorem dX4_close_126 : decode cX4_close 126 = .ok (.dup2, 1) := dk_92 (dk_at dksX4_close_5 11 rfl rfl)
theorem dX4_close_127 : decode cX4_close 127 = .ok (.laload, 1) := dk_47 (dk_at dksX4_close_5 12 rfl rfl)
theorem dX4_close_128 : decode cX4_close 128 = .ok (.aload_n 0, 1) := dk_42 (dk_at dksX4_close_5 13 rfl rfl)
theorem dX4_close_129 : decode cX4_close 129 = .ok (.getfield 3, 3) := dk_180 0 3 (dk_at dksX4_close_5 14 rfl rfl)
theorem dX4_close_132 : decode cX4_close 132 = .ok (.getfield 95, 3) := dk_180 0 95 (dk_at dksX4_close_5 17 rfl rfl)
theorem dX4_close_135 : decode cX4_close 135 = .ok (.getfield 197, 3) := dk_180 0 197 (dk_at dksX4_close_5 20 rfl rfl)
theorem dX4_close_138 : decode cX4_close 138 = .ok (.lload_n 1, 1) := dk_31 (dk_at dksX4_close_5 23 rfl rfl)
theorem dX4_close_139 : decode cX4_close 139 = .ok (.invokevirtual 118, 3) := dk_182 0 118 (dk_at dksX4_close_6 0 rfl rfl)
theorem dX4_close_142 : decode cX4_close 142 = .ok (.ladd, 1) := dk_97 (dk_at dksX4_close_6 3 rfl rfl)
theorem dX4_close_143 : decode cX4_close 143 = .ok (.lastore, 1) := dk_80 (dk_at dksX4_close_6 4 rfl rfl)
theorem dX4_close_144 : decode cX4_close 144 = .ok (.iconst 0, 1) := dk_3 (dk_at dksX4_close_6 5 rfl rfl)
theorem dX4_close_145 : decode cX4_close 145 = .ok (.istore_n 3, 1) := dk_62 (dk_at dksX4_close_6 6 rfl rfl)
theorem dX4_close_146 : decode cX4_close 146 = .ok (.iload_n 3, 1) := dk_29 (dk_at dksX4_close_6 7 rfl rfl)
theorem dX4_close_147 : decode cX4_close 147 = .ok (.aload_n 0, 1) := dk_42 (dk_at dksX4_close_6 8 rfl rfl)
theorem dX4_close_148 : decode cX4_close 148 = .ok (.getfield 20, 3) := dk_180 0 20 (dk_at dksX4_close_6 9 rfl rfl)
theorem dX4_close_151 : decode cX4_close 151 = .ok (.invokeinterface 46 1, 5) := by decide +kernel
theorem dX4_close_156 : decode cX4_close 156 = .ok (.if_icmp .ge 66, 3) := dk_162 0 66 (dk_at dksX4_close_6 17 rfl rfl)
theorem dX4_close_159 : decode cX4_close 159 = .ok (.aload_n 0, 1) := dk_42 (dk_at dksX4_close_6 20 rfl rfl)
theorem dX4_close_160 : decode cX4_close 160 = .ok (.aload_n 0, 1) := dk_42 (dk_at dksX4_close_6 21 rfl rfl)
theorem dX4_close_161 : decode cX4_close 161 = .ok (.getfield 20, 3) := dk_180 0 20 (dk_at dksX4_close_7 0 rfl rfl)
theorem dX4_close_164 : decode cX4_close 164 = .ok (.iload_n 3, 1) := dk_29 (dk_at dksX4_close_7 3 rfl rfl)
theorem dX4_close_165 : decode cX4_close 165 = .ok (.invokeinterface 52 2, 5) := by decide +kernel
theorem dX4_close_170 : decode cX4_close 170 = .ok (.checkcast 56, 3) := dk_192 0 56 (dk_at dksX4_close_7 9 rfl rfl)
theorem dX4_close_173 : decode cX4_close 173 = .ok (.invokevirtual 200, 3) := dk_182 0 200 (dk_at dksX4_close_7 12 rfl rfl)
theorem dX4_close_176 : decode cX4_close 176 = .ok (.aload_n 0, 1) := dk_42 (dk_at dksX4_close_7 15 rfl rfl)
theorem dX4_close_177 : decode cX4_close 177 = .ok (.getfield 20, 3) := dk_180 0 20 (dk_at dksX4_close_7 16 rfl rfl)
theorem dX4_close_180 : decode cX4_close 180 = .ok (.iload_n 3, 1) := dk_29 (dk_at dksX4_close_7 19 rfl rfl)
theorem dX4_close_181 : decode cX4_close 181 = .ok (.invokeinterface 52 2, 5) := by decide +kernel
theorem dX4_close_186 : decode cX4_close 186 = .ok (.checkcast 56, 3) := dk_192 0 56 (dk_at dksX4_close_8 5 rfl rfl)
theorem dX4_close_189 : decode cX4_close 189 = .ok (.getfield 186, 3) := dk_180 0 186 (dk_at dksX4_close_8 8 rfl rfl)
theorem dX4_close_192 : decode cX4_close 192 = .ok (.aload_n 0, 1) := dk_42 (dk_at dksX4_close_8 11 rfl rfl)
theorem dX4_close_193 : decode cX4_close 193 = .ok (.getfield 58, 3) := dk_180 0 58 (dk_at dksX4_close_8 12 rfl rfl)
theorem dX4_close_196 : decode cX4_close 196 = .ok (.aaload, 1) := dk_50 (dk_at dksX4_close_8 15 rfl rfl)
theorem dX4_close_197 : decode cX4_close 197 = .ok (.bipush 6, 2) := dk_16 6 (dk_at dksX4_close_8 16 rfl rfl)
theorem dX4_close_199 : decode cX4_close 199 = .ok (.aload_n 0, 1) := dk_42 (dk_at dksX4_close_8 18 rfl rfl)
theorem dX4_close_200 : decode cX4_close 200 = .ok (.getfield 20, 3) := dk_180 0 20 (dk_at dksX4_close_8 19 rfl rfl)
theorem dX4_close_203 : decode cX4_close 203 = .ok (.iload_n 3, 1) := dk_29 (dk_at dksX4_close_8 22 rfl rfl)
theorem dX4_close_204 : decode cX4_close 204 = .ok (.invokeinterface 52 2, 5) := by decide +kernel
theorem dX4_close_209 : decode cX4_close 209 = .ok (.checkcast 56, 3) := dk_192 0 56 (dk_at dksX4_close_9 5 rfl rfl)
theorem dX4_close_212 : decode cX4_close 212 = .ok (.getfield 147, 3) := dk_180 0 147 (dk_at dksX4_close_9 8 rfl rfl)
theorem dX4_close_215 : decode cX4_close 215 = .ok (.lastore, 1) := dk_80 (dk_at dksX4_close_9 11 rfl rfl)
theorem dX4_close_216 : decode cX4_close 216 = .ok (.iinc 3 1, 3) := dk_132 3 1 (dk_at dksX4_close_9 12 rfl rfl)
theorem dX4_close_219 : decode cX4_close 219 = .ok (.goto (-73), 3) := dk_167 255 183 (dk_at dksX4_close_9 15 rfl rfl)
theorem dX4_close_222 : decode cX4_close 222 = .ok (.aload_n 0, 1) := dk_42 (dk_at dksX4_close_9 18 rfl rfl)
theorem dX4_close_223 : decode cX4_close 223 = .ok (.invokevirtual 203, 3) := dk_182 0 203 (dk_at dksX4_close_9 19 rfl rfl)
theorem dX4_close_226 : decode cX4_close 226 = .ok (.return_, 1) := dk_177 (dk_at dksX4_close_9 22 rfl rfl)
abbrev cX4_statement : ByteArray := prog_3_method_6_code
def yX4_statement : MethodName := ⟨RX4, "statement", "(II)[J"⟩
def dkwX4_statement_7 : List UInt8 := [97, 45, 5, 47, 97, 45, 6, 47, 97, 45, 7, 47, 101, 80, 45, 176]
abbrev dktX4_statement_7 : List UInt8 := dkwX4_statement_7 ++ []
def dkwX4_statement_6 : List UInt8 := [47, 42, 21, 7, 27, 182, 0, 153, 97, 80, 132, 7, 1, 167, 255, 213, 45, 8, 45, 3, 47, 45, 4, 47]
abbrev dktX4_statement_6 : List UInt8 := dkwX4_statement_6 ++ dktX4_statement_7
def dkwX4_statement_5 : List UInt8 := [185, 0, 46, 1, 0, 162, 0, 35, 45, 6, 92, 47, 42, 27, 21, 7, 182, 0, 153, 97, 80, 45, 7, 92]
abbrev dktX4_statement_5 : List UInt8 := dkwX4_statement_5 ++ dktX4_statement_6
def dkwX4_statement_4 : List UInt8 := [180, 0, 147, 182, 0, 118, 167, 0, 4, 9, 80, 3, 54, 7, 21, 7, 42, 180, 0, 20]
abbrev dktX4_statement_4 : List UInt8 := dkwX4_statement_4 ++ dktX4_statement_5
def dkwX4_statement_3 : List UInt8 := [25, 4, 180, 0, 147, 9, 148, 158, 0, 24, 42, 180, 0, 3, 180, 0, 95, 180, 0, 150, 25, 4]
abbrev dktX4_statement_3 : List UInt8 := dkwX4_statement_3 ++ dktX4_statement_4
def dkwX4_statement_2 : List UInt8 := [22, 5, 182, 0, 141, 80, 45, 4, 42, 27, 182, 0, 137, 180, 0, 144, 22, 5, 182, 0, 118, 80, 45, 5]
abbrev dktX4_statement_2 : List UInt8 := dkwX4_statement_2 ++ dktX4_statement_3
def dkwX4_statement_1 : List UInt8 := [182, 0, 130, 154, 0, 5, 45, 176, 42, 27, 28, 182, 0, 134, 55, 5, 45, 3, 42, 27, 182, 0, 137]
abbrev dktX4_statement_1 : List UInt8 := dkwX4_statement_1 ++ dktX4_statement_2
def dkwX4_statement_0 : List UInt8 := [16, 7, 188, 11, 78, 42, 180, 0, 20, 27, 185, 0, 52, 2, 0, 192, 0, 56, 58, 4, 25, 4]
abbrev dktX4_statement_0 : List UInt8 := dkwX4_statement_0 ++ dktX4_statement_1
theorem dksX4_statement_0 : cX4_statement.data.toList.drop 0 = dktX4_statement_0 := by decide +kernel
theorem dksX4_statement_1 : cX4_statement.data.toList.drop 22 = dktX4_statement_1 := dk_seg dksX4_statement_0 22 rfl rfl
theorem dksX4_statement_2 : cX4_statement.data.toList.drop 45 = dktX4_statement_2 := dk_seg dksX4_statement_1 23 rfl rfl
theorem dksX4_statement_3 : cX4_statement.data.toList.drop 69 = dktX4_statement_3 := dk_seg dksX4_statement_2 24 rfl rfl
theorem dksX4_statement_4 : cX4_statement.data.toList.drop 91 = dktX4_statement_4 := dk_seg dksX4_statement_3 22 rfl rfl
theorem dksX4_statement_5 : cX4_statement.data.toList.drop 111 = dktX4_statement_5 := dk_seg dksX4_statement_4 20 rfl rfl
theorem dksX4_statement_6 : cX4_statement.data.toList.drop 135 = dktX4_statement_6 := dk_seg dksX4_statement_5 24 rfl rfl
theorem dksX4_statement_7 : cX4_statement.data.toList.drop 159 = dktX4_statement_7 := dk_seg dksX4_statement_6 24 rfl rfl
theorem dX4_statement_0 : decode cX4_statement 0 = .ok (.bipush 7, 2) := dk_16 7 (dk_at dksX4_statement_0 0 rfl rfl)
theorem dX4_statement_2 : decode cX4_statement 2 = .ok (.newarray .long, 2) := dk_188_11 (dk_at dksX4_statement_0 2 rfl rfl)
theorem dX4_statement_4 : decode cX4_statement 4 = .ok (.astore_n 3, 1) := dk_78 (dk_at dksX4_statement_0 4 rfl rfl)
theorem dX4_statement_5 : decode cX4_statement 5 = .ok (.aload_n 0, 1) := dk_42 (dk_at dksX4_statement_0 5 rfl rfl)
theorem dX4_statement_6 : decode cX4_statement 6 = .ok (.getfield 20, 3) := dk_180 0 20 (dk_at dksX4_statement_0 6 rfl rfl)
theorem dX4_statement_9 : decode cX4_statement 9 = .ok (.iload_n 1, 1) := dk_27 (dk_at dksX4_statement_0 9 rfl rfl)
theorem dX4_statement_10 : decode cX4_statement 10 = .ok (.invokeinterface 52 2, 5) := by decide +kernel
theorem dX4_statement_15 : decode cX4_statement 15 = .ok (.checkcast 56, 3) := dk_192 0 56 (dk_at dksX4_statement_0 15 rfl rfl)
theorem dX4_statement_18 : decode cX4_statement 18 = .ok (.astore 4, 2) := dk_58 4 (dk_at dksX4_statement_0 18 rfl rfl)
theorem dX4_statement_20 : decode cX4_statement 20 = .ok (.aload 4, 2) := dk_25 4 (dk_at dksX4_statement_0 20 rfl rfl)
theorem dX4_statement_22 : decode cX4_statement 22 = .ok (.invokevirtual 130, 3) := dk_182 0 130 (dk_at dksX4_statement_1 0 rfl rfl)
theorem dX4_statement_25 : decode cX4_statement 25 = .ok (.ifCond .ne 5, 3) := dk_154 0 5 (dk_at dksX4_statement_1 3 rfl rfl)
theorem dX4_statement_28 : decode cX4_statement 28 = .ok (.aload_n 3, 1) := dk_45 (dk_at dksX4_statement_1 6 rfl rfl)
theorem dX4_statement_29 : decode cX4_statement 29 = .ok (.areturn, 1) := dk_176 (dk_at dksX4_statement_1 7 rfl rfl)
theorem dX4_statement_30 : decode cX4_statement 30 = .ok (.aload_n 0, 1) := dk_42 (dk_at dksX4_statement_1 8 rfl rfl)
theorem dX4_statement_31 : decode cX4_statement 31 = .ok (.iload_n 1, 1) := dk_27 (dk_at dksX4_statement_1 9 rfl rfl)
theorem dX4_statement_32 : decode cX4_statement 32 = .ok (.iload_n 2, 1) := dk_28 (dk_at dksX4_statement_1 10 rfl rfl)
theorem dX4_statement_33 : decode cX4_statement 33 = .ok (.invokevirtual 134, 3) := dk_182 0 134 (dk_at dksX4_statement_1 11 rfl rfl)
theorem dX4_statement_36 : decode cX4_statement 36 = .ok (.lstore 5, 2) := dk_55 5 (dk_at dksX4_statement_1 14 rfl rfl)
theorem dX4_statement_38 : decode cX4_statement 38 = .ok (.aload_n 3, 1) := dk_45 (dk_at dksX4_statement_1 16 rfl rfl)
theorem dX4_statement_39 : decode cX4_statement 39 = .ok (.iconst 0, 1) := dk_3 (dk_at dksX4_statement_1 17 rfl rfl)
theorem dX4_statement_40 : decode cX4_statement 40 = .ok (.aload_n 0, 1) := dk_42 (dk_at dksX4_statement_1 18 rfl rfl)
theorem dX4_statement_41 : decode cX4_statement 41 = .ok (.iload_n 1, 1) := dk_27 (dk_at dksX4_statement_1 19 rfl rfl)
theorem dX4_statement_42 : decode cX4_statement 42 = .ok (.invokevirtual 137, 3) := dk_182 0 137 (dk_at dksX4_statement_1 20 rfl rfl)
theorem dX4_statement_45 : decode cX4_statement 45 = .ok (.lload 5, 2) := dk_22 5 (dk_at dksX4_statement_2 0 rfl rfl)
theorem dX4_statement_47 : decode cX4_statement 47 = .ok (.invokevirtual 141, 3) := dk_182 0 141 (dk_at dksX4_statement_2 2 rfl rfl)
theorem dX4_statement_50 : decode cX4_statement 50 = .ok (.lastore, 1) := dk_80 (dk_at dksX4_statement_2 5 rfl rfl)
theorem dX4_statement_51 : decode cX4_statement 51 = .ok (.aload_n 3, 1) := dk_45 (dk_at dksX4_statement_2 6 rfl rfl)
theorem dX4_statement_52 : decode cX4_statement 52 = .ok (.iconst 1, 1) := dk_4 (dk_at dksX4_statement_2 7 rfl rfl)
theorem dX4_statement_53 : decode cX4_statement 53 = .ok (.aload_n 0, 1) := dk_42 (dk_at dksX4_statement_2 8 rfl rfl)
theorem dX4_statement_54 : decode cX4_statement 54 = .ok (.iload_n 1, 1) := dk_27 (dk_at dksX4_statement_2 9 rfl rfl)
theorem dX4_statement_55 : decode cX4_statement 55 = .ok (.invokevirtual 137, 3) := dk_182 0 137 (dk_at dksX4_statement_2 10 rfl rfl)
theorem dX4_statement_58 : decode cX4_statement 58 = .ok (.getfield 144, 3) := dk_180 0 144 (dk_at dksX4_statement_2 13 rfl rfl)
theorem dX4_statement_61 : decode cX4_statement 61 = .ok (.lload 5, 2) := dk_22 5 (dk_at dksX4_statement_2 16 rfl rfl)
theorem dX4_statement_63 : decode cX4_statement 63 = .ok (.invokevirtual 118, 3) := dk_182 0 118 (dk_at dksX4_statement_2 18 rfl rfl)
theorem dX4_statement_66 : decode cX4_statement 66 = .ok (.lastore, 1) := dk_80 (dk_at dksX4_statement_2 21 rfl rfl)
theorem dX4_statement_67 : decode cX4_statement 67 = .ok (.aload_n 3, 1) := dk_45 (dk_at dksX4_statement_2 22 rfl rfl)
theorem dX4_statement_68 : decode cX4_statement 68 = .ok (.iconst 2, 1) := dk_5 (dk_at dksX4_statement_2 23 rfl rfl)
theorem dX4_statement_69 : decode cX4_statement 69 = .ok (.aload 4, 2) := dk_25 4 (dk_at dksX4_statement_3 0 rfl rfl)
theorem dX4_statement_71 : decode cX4_statement 71 = .ok (.getfield 147, 3) := dk_180 0 147 (dk_at dksX4_statement_3 2 rfl rfl)
theorem dX4_statement_74 : decode cX4_statement 74 = .ok (.lconst 0, 1) := dk_9 (dk_at dksX4_statement_3 5 rfl rfl)
theorem dX4_statement_75 : decode cX4_statement 75 = .ok (.lcmp, 1) := dk_148 (dk_at dksX4_statement_3 6 rfl rfl)
theorem dX4_statement_76 : decode cX4_statement 76 = .ok (.ifCond .le 24, 3) := dk_158 0 24 (dk_at dksX4_statement_3 7 rfl rfl)
theorem dX4_statement_79 : decode cX4_statement 79 = .ok (.aload_n 0, 1) := dk_42 (dk_at dksX4_statement_3 10 rfl rfl)
theorem dX4_statement_80 : decode cX4_statement 80 = .ok (.getfield 3, 3) := dk_180 0 3 (dk_at dksX4_statement_3 11 rfl rfl)
theorem dX4_statement_83 : decode cX4_statement 83 = .ok (.getfield 95, 3) := dk_180 0 95 (dk_at dksX4_statement_3 14 rfl rfl)
theorem dX4_statement_86 : decode cX4_statement 86 = .ok (.getfield 150, 3) := dk_180 0 150 (dk_at dksX4_statement_3 17 rfl rfl)
theorem dX4_statement_89 : decode cX4_statement 89 = .ok (.aload 4, 2) := dk_25 4 (dk_at dksX4_statement_3 20 rfl rfl)
theorem dX4_statement_91 : decode cX4_statement 91 = .ok (.getfield 147, 3) := dk_180 0 147 (dk_at dksX4_statement_4 0 rfl rfl)
theorem dX4_statement_94 : decode cX4_statement 94 = .ok (.invokevirtual 118, 3) := dk_182 0 118 (dk_at dksX4_statement_4 3 rfl rfl)
theorem dX4_statement_97 : decode cX4_statement 97 = .ok (.goto 4, 3) := dk_167 0 4 (dk_at dksX4_statement_4 6 rfl rfl)
theorem dX4_statement_100 : decode cX4_statement 100 = .ok (.lconst 0, 1) := dk_9 (dk_at dksX4_statement_4 9 rfl rfl)
theorem dX4_statement_101 : decode cX4_statement 101 = .ok (.lastore, 1) := dk_80 (dk_at dksX4_statement_4 10 rfl rfl)
theorem dX4_statement_102 : decode cX4_statement 102 = .ok (.iconst 0, 1) := dk_3 (dk_at dksX4_statement_4 11 rfl rfl)
theorem dX4_statement_103 : decode cX4_statement 103 = .ok (.istore 7, 2) := dk_54 7 (dk_at dksX4_statement_4 12 rfl rfl)
theorem dX4_statement_105 : decode cX4_statement 105 = .ok (.iload 7, 2) := dk_21 7 (dk_at dksX4_statement_4 14 rfl rfl)
theorem dX4_statement_107 : decode cX4_statement 107 = .ok (.aload_n 0, 1) := dk_42 (dk_at dksX4_statement_4 16 rfl rfl)
theorem dX4_statement_108 : decode cX4_statement 108 = .ok (.getfield 20, 3) := dk_180 0 20 (dk_at dksX4_statement_4 17 rfl rfl)
theorem dX4_statement_111 : decode cX4_statement 111 = .ok (.invokeinterface 46 1, 5) := by decide +kernel
theorem dX4_statement_116 : decode cX4_statement 116 = .ok (.if_icmp .ge 35, 3) := dk_162 0 35 (dk_at dksX4_statement_5 5 rfl rfl)
theorem dX4_statement_119 : decode cX4_statement 119 = .ok (.aload_n 3, 1) := dk_45 (dk_at dksX4_statement_5 8 rfl rfl)
theorem dX4_statement_120 : decode cX4_statement 120 = .ok (.iconst 3, 1) := dk_6 (dk_at dksX4_statement_5 9 rfl rfl)
theorem dX4_statement_121 : decode cX4_statement 121 = .ok (.dup2, 1) := dk_92 (dk_at dksX4_statement_5 10 rfl rfl)
theorem dX4_statement_122 : decode cX4_statement 122 = .ok (.laload, 1) := dk_47 (dk_at dksX4_statement_5 11 rfl rfl)
theorem dX4_statement_123 : decode cX4_statement 123 = .ok (.aload_n 0, 1) := dk_42 (dk_at dksX4_statement_5 12 rfl rfl)
theorem dX4_statement_124 : decode cX4_statement 124 = .ok (.iload_n 1, 1) := dk_27 (dk_at dksX4_statement_5 13 rfl rfl)
theorem dX4_statement_125 : decode cX4_statement 125 = .ok (.iload 7, 2) := dk_21 7 (dk_at dksX4_statement_5 14 rfl rfl)
theorem dX4_statement_127 : decode cX4_statement 127 = .ok (.invokevirtual 153, 3) := dk_182 0 153 (dk_at dksX4_statement_5 16 rfl rfl)
theorem dX4_statement_130 : decode cX4_statement 130 = .ok (.ladd, 1) := dk_97 (dk_at dksX4_statement_5 19 rfl rfl)
theorem dX4_statement_131 : decode cX4_statement 131 = .ok (.lastore, 1) := dk_80 (dk_at dksX4_statement_5 20 rfl rfl)
theorem dX4_statement_132 : decode cX4_statement 132 = .ok (.aload_n 3, 1) := dk_45 (dk_at dksX4_statement_5 21 rfl rfl)
theorem dX4_statement_133 : decode cX4_statement 133 = .ok (.iconst 4, 1) := dk_7 (dk_at dksX4_statement_5 22 rfl rfl)
theorem dX4_statement_134 : decode cX4_statement 134 = .ok (.dup2, 1) := dk_92 (dk_at dksX4_statement_5 23 rfl rfl)
theorem dX4_statement_135 : decode cX4_statement 135 = .ok (.laload, 1) := dk_47 (dk_at dksX4_statement_6 0 rfl rfl)
theorem dX4_statement_136 : decode cX4_statement 136 = .ok (.aload_n 0, 1) := dk_42 (dk_at dksX4_statement_6 1 rfl rfl)
theorem dX4_statement_137 : decode cX4_statement 137 = .ok (.iload 7, 2) := dk_21 7 (dk_at dksX4_statement_6 2 rfl rfl)
theorem dX4_statement_139 : decode cX4_statement 139 = .ok (.iload_n 1, 1) := dk_27 (dk_at dksX4_statement_6 4 rfl rfl)
theorem dX4_statement_140 : decode cX4_statement 140 = .ok (.invokevirtual 153, 3) := dk_182 0 153 (dk_at dksX4_statement_6 5 rfl rfl)
theorem dX4_statement_143 : decode cX4_statement 143 = .ok (.ladd, 1) := dk_97 (dk_at dksX4_statement_6 8 rfl rfl)
theorem dX4_statement_144 : decode cX4_statement 144 = .ok (.lastore, 1) := dk_80 (dk_at dksX4_statement_6 9 rfl rfl)
theorem dX4_statement_145 : decode cX4_statement 145 = .ok (.iinc 7 1, 3) := dk_132 7 1 (dk_at dksX4_statement_6 10 rfl rfl)
theorem dX4_statement_148 : decode cX4_statement 148 = .ok (.goto (-43), 3) := dk_167 255 213 (dk_at dksX4_statement_6 13 rfl rfl)
theorem dX4_statement_151 : decode cX4_statement 151 = .ok (.aload_n 3, 1) := dk_45 (dk_at dksX4_statement_6 16 rfl rfl)
theorem dX4_statement_152 : decode cX4_statement 152 = .ok (.iconst 5, 1) := dk_8 (dk_at dksX4_statement_6 17 rfl rfl)
theorem dX4_statement_153 : decode cX4_statement 153 = .ok (.aload_n 3, 1) := dk_45 (dk_at dksX4_statement_6 18 rfl rfl)
theorem dX4_statement_154 : decode cX4_statement 154 = .ok (.iconst 0, 1) := dk_3 (dk_at dksX4_statement_6 19 rfl rfl)
theorem dX4_statement_155 : decode cX4_statement 155 = .ok (.laload, 1) := dk_47 (dk_at dksX4_statement_6 20 rfl rfl)
theorem dX4_statement_156 : decode cX4_statement 156 = .ok (.aload_n 3, 1) := dk_45 (dk_at dksX4_statement_6 21 rfl rfl)
theorem dX4_statement_157 : decode cX4_statement 157 = .ok (.iconst 1, 1) := dk_4 (dk_at dksX4_statement_6 22 rfl rfl)
theorem dX4_statement_158 : decode cX4_statement 158 = .ok (.laload, 1) := dk_47 (dk_at dksX4_statement_6 23 rfl rfl)
theorem dX4_statement_159 : decode cX4_statement 159 = .ok (.ladd, 1) := dk_97 (dk_at dksX4_statement_7 0 rfl rfl)
theorem dX4_statement_160 : decode cX4_statement 160 = .ok (.aload_n 3, 1) := dk_45 (dk_at dksX4_statement_7 1 rfl rfl)
theorem dX4_statement_161 : decode cX4_statement 161 = .ok (.iconst 2, 1) := dk_5 (dk_at dksX4_statement_7 2 rfl rfl)
theorem dX4_statement_162 : decode cX4_statement 162 = .ok (.laload, 1) := dk_47 (dk_at dksX4_statement_7 3 rfl rfl)
theorem dX4_statement_163 : decode cX4_statement 163 = .ok (.ladd, 1) := dk_97 (dk_at dksX4_statement_7 4 rfl rfl)
theorem dX4_statement_164 : decode cX4_statement 164 = .ok (.aload_n 3, 1) := dk_45 (dk_at dksX4_statement_7 5 rfl rfl)
theorem dX4_statement_165 : decode cX4_statement 165 = .ok (.iconst 3, 1) := dk_6 (dk_at dksX4_statement_7 6 rfl rfl)
theorem dX4_statement_166 : decode cX4_statement 166 = .ok (.laload, 1) := dk_47 (dk_at dksX4_statement_7 7 rfl rfl)
theorem dX4_statement_167 : decode cX4_statement 167 = .ok (.ladd, 1) := dk_97 (dk_at dksX4_statement_7 8 rfl rfl)
theorem dX4_statement_168 : decode cX4_statement 168 = .ok (.aload_n 3, 1) := dk_45 (dk_at dksX4_statement_7 9 rfl rfl)
theorem dX4_statement_169 : decode cX4_statement 169 = .ok (.iconst 4, 1) := dk_7 (dk_at dksX4_statement_7 10 rfl rfl)
theorem dX4_statement_170 : decode cX4_statement 170 = .ok (.laload, 1) := dk_47 (dk_at dksX4_statement_7 11 rfl rfl)
theorem dX4_statement_171 : decode cX4_statement 171 = .ok (.lsub, 1) := dk_101 (dk_at dksX4_statement_7 12 rfl rfl)
theorem dX4_statement_172 : decode cX4_statement 172 = .ok (.lastore, 1) := dk_80 (dk_at dksX4_statement_7 13 rfl rfl)
theorem dX4_statement_173 : decode cX4_statement 173 = .ok (.aload_n 3, 1) := dk_45 (dk_at dksX4_statement_7 14 rfl rfl)
theorem dX4_statement_174 : decode cX4_statement 174 = .ok (.areturn, 1) := dk_176 (dk_at dksX4_statement_7 15 rfl rfl)
abbrev cX4_sales : ByteArray := prog_3_method_4_code
def yX4_sales : MethodName := ⟨RX4, "sales", "(II)J"⟩
def dkwX4_sales_3 : List UInt8 := [132, 5, 1, 167, 255, 187, 33, 173]
abbrev dktX4_sales_3 : List UInt8 := dkwX4_sales_3 ++ []
def dkwX4_sales_2 : List UInt8 := [185, 0, 52, 2, 0, 192, 0, 70, 180, 0, 78, 28, 133, 105, 20, 0, 109, 109, 167, 0, 4, 9, 97, 66]
abbrev dktX4_sales_2 : List UInt8 := dkwX4_sales_2 ++ dktX4_sales_3
def dkwX4_sales_1 : List UInt8 := [21, 5, 185, 0, 52, 2, 0, 192, 0, 70, 180, 0, 75, 27, 160, 0, 30, 42, 180, 0, 24, 21, 5]
abbrev dktX4_sales_1 : List UInt8 := dkwX4_sales_1 ++ dktX4_sales_2
def dkwX4_sales_0 : List UInt8 := [9, 66, 3, 54, 5, 21, 5, 42, 180, 0, 24, 185, 0, 46, 1, 0, 162, 0, 61, 33, 42, 180, 0, 24]
abbrev dktX4_sales_0 : List UInt8 := dkwX4_sales_0 ++ dktX4_sales_1
theorem dksX4_sales_0 : cX4_sales.data.toList.drop 0 = dktX4_sales_0 := by decide +kernel
theorem dksX4_sales_1 : cX4_sales.data.toList.drop 24 = dktX4_sales_1 := dk_seg dksX4_sales_0 24 rfl rfl
theorem dksX4_sales_2 : cX4_sales.data.toList.drop 47 = dktX4_sales_2 := dk_seg dksX4_sales_1 23 rfl rfl
theorem dksX4_sales_3 : cX4_sales.data.toList.drop 71 = dktX4_sales_3 := dk_seg dksX4_sales_2 24 rfl rfl
theorem dX4_sales_0 : decode cX4_sales 0 = .ok (.lconst 0, 1) := dk_9 (dk_at dksX4_sales_0 0 rfl rfl)
theorem dX4_sales_1 : decode cX4_sales 1 = .ok (.lstore_n 3, 1) := dk_66 (dk_at dksX4_sales_0 1 rfl rfl)
theorem dX4_sales_2 : decode cX4_sales 2 = .ok (.iconst 0, 1) := dk_3 (dk_at dksX4_sales_0 2 rfl rfl)
theorem dX4_sales_3 : decode cX4_sales 3 = .ok (.istore 5, 2) := dk_54 5 (dk_at dksX4_sales_0 3 rfl rfl)
theorem dX4_sales_5 : decode cX4_sales 5 = .ok (.iload 5, 2) := dk_21 5 (dk_at dksX4_sales_0 5 rfl rfl)
theorem dX4_sales_7 : decode cX4_sales 7 = .ok (.aload_n 0, 1) := dk_42 (dk_at dksX4_sales_0 7 rfl rfl)
theorem dX4_sales_8 : decode cX4_sales 8 = .ok (.getfield 24, 3) := dk_180 0 24 (dk_at dksX4_sales_0 8 rfl rfl)
theorem dX4_sales_11 : decode cX4_sales 11 = .ok (.invokeinterface 46 1, 5) := by decide +kernel
theorem dX4_sales_16 : decode cX4_sales 16 = .ok (.if_icmp .ge 61, 3) := dk_162 0 61 (dk_at dksX4_sales_0 16 rfl rfl)
theorem dX4_sales_19 : decode cX4_sales 19 = .ok (.lload_n 3, 1) := dk_33 (dk_at dksX4_sales_0 19 rfl rfl)
theorem dX4_sales_20 : decode cX4_sales 20 = .ok (.aload_n 0, 1) := dk_42 (dk_at dksX4_sales_0 20 rfl rfl)
theorem dX4_sales_21 : decode cX4_sales 21 = .ok (.getfield 24, 3) := dk_180 0 24 (dk_at dksX4_sales_0 21 rfl rfl)
theorem dX4_sales_24 : decode cX4_sales 24 = .ok (.iload 5, 2) := dk_21 5 (dk_at dksX4_sales_1 0 rfl rfl)
theorem dX4_sales_26 : decode cX4_sales 26 = .ok (.invokeinterface 52 2, 5) := by decide +kernel
theorem dX4_sales_31 : decode cX4_sales 31 = .ok (.checkcast 70, 3) := dk_192 0 70 (dk_at dksX4_sales_1 7 rfl rfl)
theorem dX4_sales_34 : decode cX4_sales 34 = .ok (.getfield 75, 3) := dk_180 0 75 (dk_at dksX4_sales_1 10 rfl rfl)
theorem dX4_sales_37 : decode cX4_sales 37 = .ok (.iload_n 1, 1) := dk_27 (dk_at dksX4_sales_1 13 rfl rfl)
theorem dX4_sales_38 : decode cX4_sales 38 = .ok (.if_icmp .ne 30, 3) := dk_160 0 30 (dk_at dksX4_sales_1 14 rfl rfl)
theorem dX4_sales_41 : decode cX4_sales 41 = .ok (.aload_n 0, 1) := dk_42 (dk_at dksX4_sales_1 17 rfl rfl)
theorem dX4_sales_42 : decode cX4_sales 42 = .ok (.getfield 24, 3) := dk_180 0 24 (dk_at dksX4_sales_1 18 rfl rfl)
theorem dX4_sales_45 : decode cX4_sales 45 = .ok (.iload 5, 2) := dk_21 5 (dk_at dksX4_sales_1 21 rfl rfl)
theorem dX4_sales_47 : decode cX4_sales 47 = .ok (.invokeinterface 52 2, 5) := by decide +kernel
theorem dX4_sales_52 : decode cX4_sales 52 = .ok (.checkcast 70, 3) := dk_192 0 70 (dk_at dksX4_sales_2 5 rfl rfl)
theorem dX4_sales_55 : decode cX4_sales 55 = .ok (.getfield 78, 3) := dk_180 0 78 (dk_at dksX4_sales_2 8 rfl rfl)
theorem dX4_sales_58 : decode cX4_sales 58 = .ok (.iload_n 2, 1) := dk_28 (dk_at dksX4_sales_2 11 rfl rfl)
theorem dX4_sales_59 : decode cX4_sales 59 = .ok (.i2l, 1) := dk_133 (dk_at dksX4_sales_2 12 rfl rfl)
theorem dX4_sales_60 : decode cX4_sales 60 = .ok (.lmul, 1) := dk_105 (dk_at dksX4_sales_2 13 rfl rfl)
theorem dX4_sales_61 : decode cX4_sales 61 = .ok (.ldc2_w 109, 3) := dk_20 0 109 (dk_at dksX4_sales_2 14 rfl rfl)
theorem dX4_sales_64 : decode cX4_sales 64 = .ok (.ldiv, 1) := dk_109 (dk_at dksX4_sales_2 17 rfl rfl)
theorem dX4_sales_65 : decode cX4_sales 65 = .ok (.goto 4, 3) := dk_167 0 4 (dk_at dksX4_sales_2 18 rfl rfl)
theorem dX4_sales_68 : decode cX4_sales 68 = .ok (.lconst 0, 1) := dk_9 (dk_at dksX4_sales_2 21 rfl rfl)
theorem dX4_sales_69 : decode cX4_sales 69 = .ok (.ladd, 1) := dk_97 (dk_at dksX4_sales_2 22 rfl rfl)
theorem dX4_sales_70 : decode cX4_sales 70 = .ok (.lstore_n 3, 1) := dk_66 (dk_at dksX4_sales_2 23 rfl rfl)
theorem dX4_sales_71 : decode cX4_sales 71 = .ok (.iinc 5 1, 3) := dk_132 5 1 (dk_at dksX4_sales_3 0 rfl rfl)
theorem dX4_sales_74 : decode cX4_sales 74 = .ok (.goto (-69), 3) := dk_167 255 187 (dk_at dksX4_sales_3 3 rfl rfl)
theorem dX4_sales_77 : decode cX4_sales 77 = .ok (.lload_n 3, 1) := dk_33 (dk_at dksX4_sales_3 6 rfl rfl)
theorem dX4_sales_78 : decode cX4_sales 78 = .ok (.lreturn, 1) := dk_173 (dk_at dksX4_sales_3 7 rfl rfl)
abbrev cX4_planOf : ByteArray := prog_3_method_3_code
def yX4_planOf : MethodName := ⟨RX4, "planOf", "(I)LFranchiseLedger$Plan;"⟩
def dkwX4_planOf_1 : List UInt8 := [180, 0, 104, 185, 0, 52, 2, 0, 192, 0, 107, 176]
abbrev dktX4_planOf_1 : List UInt8 := dkwX4_planOf_1 ++ []
def dkwX4_planOf_0 : List UInt8 := [42, 180, 0, 3, 180, 0, 95, 180, 0, 99, 42, 180, 0, 20, 27, 185, 0, 52, 2, 0, 192, 0, 56]
abbrev dktX4_planOf_0 : List UInt8 := dkwX4_planOf_0 ++ dktX4_planOf_1
theorem dksX4_planOf_0 : cX4_planOf.data.toList.drop 0 = dktX4_planOf_0 := by decide +kernel
theorem dksX4_planOf_1 : cX4_planOf.data.toList.drop 23 = dktX4_planOf_1 := dk_seg dksX4_planOf_0 23 rfl rfl
theorem dX4_planOf_0 : decode cX4_planOf 0 = .ok (.aload_n 0, 1) := dk_42 (dk_at dksX4_planOf_0 0 rfl rfl)
theorem dX4_planOf_1 : decode cX4_planOf 1 = .ok (.getfield 3, 3) := dk_180 0 3 (dk_at dksX4_planOf_0 1 rfl rfl)
theorem dX4_planOf_4 : decode cX4_planOf 4 = .ok (.getfield 95, 3) := dk_180 0 95 (dk_at dksX4_planOf_0 4 rfl rfl)
theorem dX4_planOf_7 : decode cX4_planOf 7 = .ok (.getfield 99, 3) := dk_180 0 99 (dk_at dksX4_planOf_0 7 rfl rfl)
theorem dX4_planOf_10 : decode cX4_planOf 10 = .ok (.aload_n 0, 1) := dk_42 (dk_at dksX4_planOf_0 10 rfl rfl)
theorem dX4_planOf_11 : decode cX4_planOf 11 = .ok (.getfield 20, 3) := dk_180 0 20 (dk_at dksX4_planOf_0 11 rfl rfl)
theorem dX4_planOf_14 : decode cX4_planOf 14 = .ok (.iload_n 1, 1) := dk_27 (dk_at dksX4_planOf_0 14 rfl rfl)
theorem dX4_planOf_15 : decode cX4_planOf 15 = .ok (.invokeinterface 52 2, 5) := by decide +kernel
theorem dX4_planOf_20 : decode cX4_planOf 20 = .ok (.checkcast 56, 3) := dk_192 0 56 (dk_at dksX4_planOf_0 20 rfl rfl)
theorem dX4_planOf_23 : decode cX4_planOf 23 = .ok (.getfield 104, 3) := dk_180 0 104 (dk_at dksX4_planOf_1 0 rfl rfl)
theorem dX4_planOf_26 : decode cX4_planOf 26 = .ok (.invokeinterface 52 2, 5) := by decide +kernel
theorem dX4_planOf_31 : decode cX4_planOf 31 = .ok (.checkcast 107, 3) := dk_192 0 107 (dk_at dksX4_planOf_1 8 rfl rfl)
theorem dX4_planOf_34 : decode cX4_planOf 34 = .ok (.areturn, 1) := dk_176 (dk_at dksX4_planOf_1 11 rfl rfl)
abbrev cX4_credit : ByteArray := prog_3_method_5_code
def yX4_credit : MethodName := ⟨RX4, "credit", "(II)J"⟩
def dkwX4_credit_1 : List UInt8 := [27, 50, 28, 47, 182, 0, 118, 184, 0, 124, 173]
abbrev dktX4_credit_1 : List UInt8 := dkwX4_credit_1 ++ []
def dkwX4_credit_0 : List UInt8 := [42, 180, 0, 3, 180, 0, 95, 180, 0, 111, 42, 180, 0, 3, 180, 0, 95, 180, 0, 114, 42, 180, 0, 36]
abbrev dktX4_credit_0 : List UInt8 := dkwX4_credit_0 ++ dktX4_credit_1
theorem dksX4_credit_0 : cX4_credit.data.toList.drop 0 = dktX4_credit_0 := by decide +kernel
theorem dksX4_credit_1 : cX4_credit.data.toList.drop 24 = dktX4_credit_1 := dk_seg dksX4_credit_0 24 rfl rfl
theorem dX4_credit_0 : decode cX4_credit 0 = .ok (.aload_n 0, 1) := dk_42 (dk_at dksX4_credit_0 0 rfl rfl)
theorem dX4_credit_1 : decode cX4_credit 1 = .ok (.getfield 3, 3) := dk_180 0 3 (dk_at dksX4_credit_0 1 rfl rfl)
theorem dX4_credit_4 : decode cX4_credit 4 = .ok (.getfield 95, 3) := dk_180 0 95 (dk_at dksX4_credit_0 4 rfl rfl)
theorem dX4_credit_7 : decode cX4_credit 7 = .ok (.getfield 111, 3) := dk_180 0 111 (dk_at dksX4_credit_0 7 rfl rfl)
theorem dX4_credit_10 : decode cX4_credit 10 = .ok (.aload_n 0, 1) := dk_42 (dk_at dksX4_credit_0 10 rfl rfl)
theorem dX4_credit_11 : decode cX4_credit 11 = .ok (.getfield 3, 3) := dk_180 0 3 (dk_at dksX4_credit_0 11 rfl rfl)
theorem dX4_credit_14 : decode cX4_credit 14 = .ok (.getfield 95, 3) := dk_180 0 95 (dk_at dksX4_credit_0 14 rfl rfl)
theorem dX4_credit_17 : decode cX4_credit 17 = .ok (.getfield 114, 3) := dk_180 0 114 (dk_at dksX4_credit_0 17 rfl rfl)
theorem dX4_credit_20 : decode cX4_credit 20 = .ok (.aload_n 0, 1) := dk_42 (dk_at dksX4_credit_0 20 rfl rfl)
theorem dX4_credit_21 : decode cX4_credit 21 = .ok (.getfield 36, 3) := dk_180 0 36 (dk_at dksX4_credit_0 21 rfl rfl)
theorem dX4_credit_24 : decode cX4_credit 24 = .ok (.iload_n 1, 1) := dk_27 (dk_at dksX4_credit_1 0 rfl rfl)
theorem dX4_credit_25 : decode cX4_credit 25 = .ok (.aaload, 1) := dk_50 (dk_at dksX4_credit_1 1 rfl rfl)
theorem dX4_credit_26 : decode cX4_credit 26 = .ok (.iload_n 2, 1) := dk_28 (dk_at dksX4_credit_1 2 rfl rfl)
theorem dX4_credit_27 : decode cX4_credit 27 = .ok (.laload, 1) := dk_47 (dk_at dksX4_credit_1 3 rfl rfl)
theorem dX4_credit_28 : decode cX4_credit 28 = .ok (.invokevirtual 118, 3) := dk_182 0 118 (dk_at dksX4_credit_1 4 rfl rfl)
theorem dX4_credit_31 : decode cX4_credit 31 = .ok (.invokestatic 124, 3) := dk_184 0 124 (dk_at dksX4_credit_1 7 rfl rfl)
theorem dX4_credit_34 : decode cX4_credit 34 = .ok (.lreturn, 1) := dk_173 (dk_at dksX4_credit_1 10 rfl rfl)
abbrev cX4_book : ByteArray := prog_3_method_7_code
def yX4_book : MethodName := ⟨RX4, "book", "(LFranchiseLedger$Franchisee;[J)V"⟩
def dkwX4_book_2 : List UInt8 := [44, 4, 47, 97, 181, 0, 158, 177]
abbrev dktX4_book_2 : List UInt8 := dkwX4_book_2 ++ []
def dkwX4_book_1 : List UInt8 := [167, 0, 4, 3, 181, 0, 155, 43, 89, 180, 0, 147, 44, 8, 47, 97, 181, 0, 147, 43, 89, 180, 0, 158]
abbrev dktX4_book_1 : List UInt8 := dkwX4_book_1 ++ dktX4_book_2
def dkwX4_book_0 : List UInt8 := [43, 182, 0, 130, 154, 0, 4, 177, 43, 43, 180, 0, 147, 9, 148, 158, 0, 12, 43, 180, 0, 155, 4, 96]
abbrev dktX4_book_0 : List UInt8 := dkwX4_book_0 ++ dktX4_book_1
theorem dksX4_book_0 : cX4_book.data.toList.drop 0 = dktX4_book_0 := by decide +kernel
theorem dksX4_book_1 : cX4_book.data.toList.drop 24 = dktX4_book_1 := dk_seg dksX4_book_0 24 rfl rfl
theorem dksX4_book_2 : cX4_book.data.toList.drop 48 = dktX4_book_2 := dk_seg dksX4_book_1 24 rfl rfl
theorem dX4_book_0 : decode cX4_book 0 = .ok (.aload_n 1, 1) := dk_43 (dk_at dksX4_book_0 0 rfl rfl)
theorem dX4_book_1 : decode cX4_book 1 = .ok (.invokevirtual 130, 3) := dk_182 0 130 (dk_at dksX4_book_0 1 rfl rfl)
theorem dX4_book_4 : decode cX4_book 4 = .ok (.ifCond .ne 4, 3) := dk_154 0 4 (dk_at dksX4_book_0 4 rfl rfl)
theorem dX4_book_7 : decode cX4_book 7 = .ok (.return_, 1) := dk_177 (dk_at dksX4_book_0 7 rfl rfl)
theorem dX4_book_8 : decode cX4_book 8 = .ok (.aload_n 1, 1) := dk_43 (dk_at dksX4_book_0 8 rfl rfl)
theorem dX4_book_9 : decode cX4_book 9 = .ok (.aload_n 1, 1) := dk_43 (dk_at dksX4_book_0 9 rfl rfl)
theorem dX4_book_10 : decode cX4_book 10 = .ok (.getfield 147, 3) := dk_180 0 147 (dk_at dksX4_book_0 10 rfl rfl)
theorem dX4_book_13 : decode cX4_book 13 = .ok (.lconst 0, 1) := dk_9 (dk_at dksX4_book_0 13 rfl rfl)
theorem dX4_book_14 : decode cX4_book 14 = .ok (.lcmp, 1) := dk_148 (dk_at dksX4_book_0 14 rfl rfl)
theorem dX4_book_15 : decode cX4_book 15 = .ok (.ifCond .le 12, 3) := dk_158 0 12 (dk_at dksX4_book_0 15 rfl rfl)
theorem dX4_book_18 : decode cX4_book 18 = .ok (.aload_n 1, 1) := dk_43 (dk_at dksX4_book_0 18 rfl rfl)
theorem dX4_book_19 : decode cX4_book 19 = .ok (.getfield 155, 3) := dk_180 0 155 (dk_at dksX4_book_0 19 rfl rfl)
theorem dX4_book_22 : decode cX4_book 22 = .ok (.iconst 1, 1) := dk_4 (dk_at dksX4_book_0 22 rfl rfl)
theorem dX4_book_23 : decode cX4_book 23 = .ok (.iadd, 1) := dk_96 (dk_at dksX4_book_0 23 rfl rfl)
theorem dX4_book_24 : decode cX4_book 24 = .ok (.goto 4, 3) := dk_167 0 4 (dk_at dksX4_book_1 0 rfl rfl)
theorem dX4_book_27 : decode cX4_book 27 = .ok (.iconst 0, 1) := dk_3 (dk_at dksX4_book_1 3 rfl rfl)
theorem dX4_book_28 : decode cX4_book 28 = .ok (.putfield 155, 3) := dk_181 0 155 (dk_at dksX4_book_1 4 rfl rfl)
theorem dX4_book_31 : decode cX4_book 31 = .ok (.aload_n 1, 1) := dk_43 (dk_at dksX4_book_1 7 rfl rfl)
theorem dX4_book_32 : decode cX4_book 32 = .ok (.dup, 1) := dk_89 (dk_at dksX4_book_1 8 rfl rfl)
theorem dX4_book_33 : decode cX4_book 33 = .ok (.getfield 147, 3) := dk_180 0 147 (dk_at dksX4_book_1 9 rfl rfl)
theorem dX4_book_36 : decode cX4_book 36 = .ok (.aload_n 2, 1) := dk_44 (dk_at dksX4_book_1 12 rfl rfl)
theorem dX4_book_37 : decode cX4_book 37 = .ok (.iconst 5, 1) := dk_8 (dk_at dksX4_book_1 13 rfl rfl)
theorem dX4_book_38 : decode cX4_book 38 = .ok (.laload, 1) := dk_47 (dk_at dksX4_book_1 14 rfl rfl)
theorem dX4_book_39 : decode cX4_book 39 = .ok (.ladd, 1) := dk_97 (dk_at dksX4_book_1 15 rfl rfl)
theorem dX4_book_40 : decode cX4_book 40 = .ok (.putfield 147, 3) := dk_181 0 147 (dk_at dksX4_book_1 16 rfl rfl)
theorem dX4_book_43 : decode cX4_book 43 = .ok (.aload_n 1, 1) := dk_43 (dk_at dksX4_book_1 19 rfl rfl)
theorem dX4_book_44 : decode cX4_book 44 = .ok (.dup, 1) := dk_89 (dk_at dksX4_book_1 20 rfl rfl)
theorem dX4_book_45 : decode cX4_book 45 = .ok (.getfield 158, 3) := dk_180 0 158 (dk_at dksX4_book_1 21 rfl rfl)
theorem dX4_book_48 : decode cX4_book 48 = .ok (.aload_n 2, 1) := dk_44 (dk_at dksX4_book_2 0 rfl rfl)
theorem dX4_book_49 : decode cX4_book 49 = .ok (.iconst 1, 1) := dk_4 (dk_at dksX4_book_2 1 rfl rfl)
theorem dX4_book_50 : decode cX4_book 50 = .ok (.laload, 1) := dk_47 (dk_at dksX4_book_2 2 rfl rfl)
theorem dX4_book_51 : decode cX4_book 51 = .ok (.ladd, 1) := dk_97 (dk_at dksX4_book_2 3 rfl rfl)
theorem dX4_book_52 : decode cX4_book 52 = .ok (.putfield 158, 3) := dk_181 0 158 (dk_at dksX4_book_2 4 rfl rfl)
theorem dX4_book_55 : decode cX4_book 55 = .ok (.return_, 1) := dk_177 (dk_at dksX4_book_2 7 rfl rfl)
abbrev cX4_transfer : ByteArray := prog_3_method_8_code
def yX4_transfer : MethodName := ⟨RX4, "transfer", "(LFranchiseLedger$Franchisee;)V"⟩
def dkwX4_transfer_3 : List UInt8 := [180, 0, 3, 180, 0, 95, 180, 0, 181, 97, 181, 0, 147, 177]
abbrev dktX4_transfer_3 : List UInt8 := dkwX4_transfer_3 ++ []
def dkwX4_transfer_2 : List UInt8 := [181, 0, 177, 43, 89, 180, 0, 178, 4, 96, 181, 0, 178, 43, 3, 181, 0, 155, 43, 89, 180, 0, 147, 42]
abbrev dktX4_transfer_2 : List UInt8 := dkwX4_transfer_2 ++ dktX4_transfer_3
def dkwX4_transfer_1 : List UInt8 := [180, 0, 3, 180, 0, 95, 180, 0, 171, 162, 0, 4, 177, 44, 7, 181, 0, 165, 43, 44, 180, 0, 174]
abbrev dktX4_transfer_1 : List UInt8 := dkwX4_transfer_1 ++ dktX4_transfer_2
def dkwX4_transfer_0 : List UInt8 := [43, 180, 0, 161, 77, 44, 180, 0, 165, 5, 160, 0, 25, 42, 180, 0, 58, 44, 180, 0, 170, 100, 42]
abbrev dktX4_transfer_0 : List UInt8 := dkwX4_transfer_0 ++ dktX4_transfer_1
theorem dksX4_transfer_0 : cX4_transfer.data.toList.drop 0 = dktX4_transfer_0 := by decide +kernel
theorem dksX4_transfer_1 : cX4_transfer.data.toList.drop 23 = dktX4_transfer_1 := dk_seg dksX4_transfer_0 23 rfl rfl
theorem dksX4_transfer_2 : cX4_transfer.data.toList.drop 46 = dktX4_transfer_2 := dk_seg dksX4_transfer_1 23 rfl rfl
theorem dksX4_transfer_3 : cX4_transfer.data.toList.drop 70 = dktX4_transfer_3 := dk_seg dksX4_transfer_2 24 rfl rfl
theorem dX4_transfer_0 : decode cX4_transfer 0 = .ok (.aload_n 1, 1) := dk_43 (dk_at dksX4_transfer_0 0 rfl rfl)
theorem dX4_transfer_1 : decode cX4_transfer 1 = .ok (.getfield 161, 3) := dk_180 0 161 (dk_at dksX4_transfer_0 1 rfl rfl)
theorem dX4_transfer_4 : decode cX4_transfer 4 = .ok (.astore_n 2, 1) := dk_77 (dk_at dksX4_transfer_0 4 rfl rfl)
theorem dX4_transfer_5 : decode cX4_transfer 5 = .ok (.aload_n 2, 1) := dk_44 (dk_at dksX4_transfer_0 5 rfl rfl)
theorem dX4_transfer_6 : decode cX4_transfer 6 = .ok (.getfield 165, 3) := dk_180 0 165 (dk_at dksX4_transfer_0 6 rfl rfl)
theorem dX4_transfer_9 : decode cX4_transfer 9 = .ok (.iconst 2, 1) := dk_5 (dk_at dksX4_transfer_0 9 rfl rfl)
theorem dX4_transfer_10 : decode cX4_transfer 10 = .ok (.if_icmp .ne 25, 3) := dk_160 0 25 (dk_at dksX4_transfer_0 10 rfl rfl)
theorem dX4_transfer_13 : decode cX4_transfer 13 = .ok (.aload_n 0, 1) := dk_42 (dk_at dksX4_transfer_0 13 rfl rfl)
theorem dX4_transfer_14 : decode cX4_transfer 14 = .ok (.getfield 58, 3) := dk_180 0 58 (dk_at dksX4_transfer_0 14 rfl rfl)
theorem dX4_transfer_17 : decode cX4_transfer 17 = .ok (.aload_n 2, 1) := dk_44 (dk_at dksX4_transfer_0 17 rfl rfl)
theorem dX4_transfer_18 : decode cX4_transfer 18 = .ok (.getfield 170, 3) := dk_180 0 170 (dk_at dksX4_transfer_0 18 rfl rfl)
theorem dX4_transfer_21 : decode cX4_transfer 21 = .ok (.isub, 1) := dk_100 (dk_at dksX4_transfer_0 21 rfl rfl)
theorem dX4_transfer_22 : decode cX4_transfer 22 = .ok (.aload_n 0, 1) := dk_42 (dk_at dksX4_transfer_0 22 rfl rfl)
theorem dX4_transfer_23 : decode cX4_transfer 23 = .ok (.getfield 3, 3) := dk_180 0 3 (dk_at dksX4_transfer_1 0 rfl rfl)
theorem dX4_transfer_26 : decode cX4_transfer 26 = .ok (.getfield 95, 3) := dk_180 0 95 (dk_at dksX4_transfer_1 3 rfl rfl)
theorem dX4_transfer_29 : decode cX4_transfer 29 = .ok (.getfield 171, 3) := dk_180 0 171 (dk_at dksX4_transfer_1 6 rfl rfl)
theorem dX4_transfer_32 : decode cX4_transfer 32 = .ok (.if_icmp .ge 4, 3) := dk_162 0 4 (dk_at dksX4_transfer_1 9 rfl rfl)
theorem dX4_transfer_35 : decode cX4_transfer 35 = .ok (.return_, 1) := dk_177 (dk_at dksX4_transfer_1 12 rfl rfl)
theorem dX4_transfer_36 : decode cX4_transfer 36 = .ok (.aload_n 2, 1) := dk_44 (dk_at dksX4_transfer_1 13 rfl rfl)
theorem dX4_transfer_37 : decode cX4_transfer 37 = .ok (.iconst 4, 1) := dk_7 (dk_at dksX4_transfer_1 14 rfl rfl)
theorem dX4_transfer_38 : decode cX4_transfer 38 = .ok (.putfield 165, 3) := dk_181 0 165 (dk_at dksX4_transfer_1 15 rfl rfl)
theorem dX4_transfer_41 : decode cX4_transfer 41 = .ok (.aload_n 1, 1) := dk_43 (dk_at dksX4_transfer_1 18 rfl rfl)
theorem dX4_transfer_42 : decode cX4_transfer 42 = .ok (.aload_n 2, 1) := dk_44 (dk_at dksX4_transfer_1 19 rfl rfl)
theorem dX4_transfer_43 : decode cX4_transfer 43 = .ok (.getfield 174, 3) := dk_180 0 174 (dk_at dksX4_transfer_1 20 rfl rfl)
theorem dX4_transfer_46 : decode cX4_transfer 46 = .ok (.putfield 177, 3) := dk_181 0 177 (dk_at dksX4_transfer_2 0 rfl rfl)
theorem dX4_transfer_49 : decode cX4_transfer 49 = .ok (.aload_n 1, 1) := dk_43 (dk_at dksX4_transfer_2 3 rfl rfl)
theorem dX4_transfer_50 : decode cX4_transfer 50 = .ok (.dup, 1) := dk_89 (dk_at dksX4_transfer_2 4 rfl rfl)
theorem dX4_transfer_51 : decode cX4_transfer 51 = .ok (.getfield 178, 3) := dk_180 0 178 (dk_at dksX4_transfer_2 5 rfl rfl)
theorem dX4_transfer_54 : decode cX4_transfer 54 = .ok (.iconst 1, 1) := dk_4 (dk_at dksX4_transfer_2 8 rfl rfl)
theorem dX4_transfer_55 : decode cX4_transfer 55 = .ok (.iadd, 1) := dk_96 (dk_at dksX4_transfer_2 9 rfl rfl)
theorem dX4_transfer_56 : decode cX4_transfer 56 = .ok (.putfield 178, 3) := dk_181 0 178 (dk_at dksX4_transfer_2 10 rfl rfl)
theorem dX4_transfer_59 : decode cX4_transfer 59 = .ok (.aload_n 1, 1) := dk_43 (dk_at dksX4_transfer_2 13 rfl rfl)
theorem dX4_transfer_60 : decode cX4_transfer 60 = .ok (.iconst 0, 1) := dk_3 (dk_at dksX4_transfer_2 14 rfl rfl)
theorem dX4_transfer_61 : decode cX4_transfer 61 = .ok (.putfield 155, 3) := dk_181 0 155 (dk_at dksX4_transfer_2 15 rfl rfl)
theorem dX4_transfer_64 : decode cX4_transfer 64 = .ok (.aload_n 1, 1) := dk_43 (dk_at dksX4_transfer_2 18 rfl rfl)
theorem dX4_transfer_65 : decode cX4_transfer 65 = .ok (.dup, 1) := dk_89 (dk_at dksX4_transfer_2 19 rfl rfl)
theorem dX4_transfer_66 : decode cX4_transfer 66 = .ok (.getfield 147, 3) := dk_180 0 147 (dk_at dksX4_transfer_2 20 rfl rfl)
theorem dX4_transfer_69 : decode cX4_transfer 69 = .ok (.aload_n 0, 1) := dk_42 (dk_at dksX4_transfer_2 23 rfl rfl)
theorem dX4_transfer_70 : decode cX4_transfer 70 = .ok (.getfield 3, 3) := dk_180 0 3 (dk_at dksX4_transfer_3 0 rfl rfl)
theorem dX4_transfer_73 : decode cX4_transfer 73 = .ok (.getfield 95, 3) := dk_180 0 95 (dk_at dksX4_transfer_3 3 rfl rfl)
theorem dX4_transfer_76 : decode cX4_transfer 76 = .ok (.getfield 181, 3) := dk_180 0 181 (dk_at dksX4_transfer_3 6 rfl rfl)
theorem dX4_transfer_79 : decode cX4_transfer 79 = .ok (.ladd, 1) := dk_97 (dk_at dksX4_transfer_3 9 rfl rfl)
theorem dX4_transfer_80 : decode cX4_transfer 80 = .ok (.putfield 147, 3) := dk_181 0 147 (dk_at dksX4_transfer_3 10 rfl rfl)
theorem dX4_transfer_83 : decode cX4_transfer 83 = .ok (.return_, 1) := dk_177 (dk_at dksX4_transfer_3 13 rfl rfl)
abbrev cX4_endMonth : ByteArray := prog_3_method_9_code
def yX4_endMonth : MethodName := ⟨RX4, "endMonth", "()V"⟩
def dkwX4_endMonth_5 : List UInt8 := [180, 0, 58, 4, 96, 181, 0, 58, 177]
abbrev dktX4_endMonth_5 : List UInt8 := dkwX4_endMonth_5 ++ []
def dkwX4_endMonth_4 : List UInt8 := [180, 0, 24, 27, 185, 0, 52, 2, 0, 192, 0, 70, 9, 181, 0, 78, 132, 1, 1, 167, 255, 223, 42, 89]
abbrev dktX4_endMonth_4 : List UInt8 := dkwX4_endMonth_4 ++ dktX4_endMonth_5
def dkwX4_endMonth_3 : List UInt8 := [132, 1, 1, 167, 255, 189, 3, 60, 27, 42, 180, 0, 24, 185, 0, 46, 1, 0, 162, 0, 26, 42]
abbrev dktX4_endMonth_3 : List UInt8 := dkwX4_endMonth_3 ++ dktX4_endMonth_4
def dkwX4_endMonth_2 : List UInt8 := [61, 28, 16, 8, 162, 0, 18, 42, 180, 0, 36, 27, 50, 28, 9, 80, 132, 2, 1, 167, 255, 238]
abbrev dktX4_endMonth_2 : List UInt8 := dkwX4_endMonth_2 ++ dktX4_endMonth_3
def dkwX4_endMonth_1 : List UInt8 := [185, 0, 52, 2, 0, 192, 0, 56, 180, 0, 184, 42, 180, 0, 58, 42, 27, 16, 100, 182, 0, 134, 80, 3]
abbrev dktX4_endMonth_1 : List UInt8 := dkwX4_endMonth_1 ++ dktX4_endMonth_2
def dkwX4_endMonth_0 : List UInt8 := [3, 60, 27, 42, 180, 0, 20, 185, 0, 46, 1, 0, 162, 0, 60, 42, 180, 0, 20, 27]
abbrev dktX4_endMonth_0 : List UInt8 := dkwX4_endMonth_0 ++ dktX4_endMonth_1
theorem dksX4_endMonth_0 : cX4_endMonth.data.toList.drop 0 = dktX4_endMonth_0 := by decide +kernel
theorem dksX4_endMonth_1 : cX4_endMonth.data.toList.drop 20 = dktX4_endMonth_1 := dk_seg dksX4_endMonth_0 20 rfl rfl
theorem dksX4_endMonth_2 : cX4_endMonth.data.toList.drop 44 = dktX4_endMonth_2 := dk_seg dksX4_endMonth_1 24 rfl rfl
theorem dksX4_endMonth_3 : cX4_endMonth.data.toList.drop 66 = dktX4_endMonth_3 := dk_seg dksX4_endMonth_2 22 rfl rfl
theorem dksX4_endMonth_4 : cX4_endMonth.data.toList.drop 88 = dktX4_endMonth_4 := dk_seg dksX4_endMonth_3 22 rfl rfl
theorem dksX4_endMonth_5 : cX4_endMonth.data.toList.drop 112 = dktX4_endMonth_5 := dk_seg dksX4_endMonth_4 24 rfl rfl
theorem dX4_endMonth_0 : decode cX4_endMonth 0 = .ok (.iconst 0, 1) := dk_3 (dk_at dksX4_endMonth_0 0 rfl rfl)
theorem dX4_endMonth_1 : decode cX4_endMonth 1 = .ok (.istore_n 1, 1) := dk_60 (dk_at dksX4_endMonth_0 1 rfl rfl)
theorem dX4_endMonth_2 : decode cX4_endMonth 2 = .ok (.iload_n 1, 1) := dk_27 (dk_at dksX4_endMonth_0 2 rfl rfl)
theorem dX4_endMonth_3 : decode cX4_endMonth 3 = .ok (.aload_n 0, 1) := dk_42 (dk_at dksX4_endMonth_0 3 rfl rfl)
theorem dX4_endMonth_4 : decode cX4_endMonth 4 = .ok (.getfield 20, 3) := dk_180 0 20 (dk_at dksX4_endMonth_0 4 rfl rfl)
theorem dX4_endMonth_7 : decode cX4_endMonth 7 = .ok (.invokeinterface 46 1, 5) := by decide +kernel
theorem dX4_endMonth_12 : decode cX4_endMonth 12 = .ok (.if_icmp .ge 60, 3) := dk_162 0 60 (dk_at dksX4_endMonth_0 12 rfl rfl)
theorem dX4_endMonth_15 : decode cX4_endMonth 15 = .ok (.aload_n 0, 1) := dk_42 (dk_at dksX4_endMonth_0 15 rfl rfl)
theorem dX4_endMonth_16 : decode cX4_endMonth 16 = .ok (.getfield 20, 3) := dk_180 0 20 (dk_at dksX4_endMonth_0 16 rfl rfl)
theorem dX4_endMonth_19 : decode cX4_endMonth 19 = .ok (.iload_n 1, 1) := dk_27 (dk_at dksX4_endMonth_0 19 rfl rfl)
theorem dX4_endMonth_20 : decode cX4_endMonth 20 = .ok (.invokeinterface 52 2, 5) := by decide +kernel
theorem dX4_endMonth_25 : decode cX4_endMonth 25 = .ok (.checkcast 56, 3) := dk_192 0 56 (dk_at dksX4_endMonth_1 5 rfl rfl)
theorem dX4_endMonth_28 : decode cX4_endMonth 28 = .ok (.getfield 184, 3) := dk_180 0 184 (dk_at dksX4_endMonth_1 8 rfl rfl)
theorem dX4_endMonth_31 : decode cX4_endMonth 31 = .ok (.aload_n 0, 1) := dk_42 (dk_at dksX4_endMonth_1 11 rfl rfl)
theorem dX4_endMonth_32 : decode cX4_endMonth 32 = .ok (.getfield 58, 3) := dk_180 0 58 (dk_at dksX4_endMonth_1 12 rfl rfl)
theorem dX4_endMonth_35 : decode cX4_endMonth 35 = .ok (.aload_n 0, 1) := dk_42 (dk_at dksX4_endMonth_1 15 rfl rfl)
theorem dX4_endMonth_36 : decode cX4_endMonth 36 = .ok (.iload_n 1, 1) := dk_27 (dk_at dksX4_endMonth_1 16 rfl rfl)
theorem dX4_endMonth_37 : decode cX4_endMonth 37 = .ok (.bipush 100, 2) := dk_16 100 (dk_at dksX4_endMonth_1 17 rfl rfl)
theorem dX4_endMonth_39 : decode cX4_endMonth 39 = .ok (.invokevirtual 134, 3) := dk_182 0 134 (dk_at dksX4_endMonth_1 19 rfl rfl)
theorem dX4_endMonth_42 : decode cX4_endMonth 42 = .ok (.lastore, 1) := dk_80 (dk_at dksX4_endMonth_1 22 rfl rfl)
theorem dX4_endMonth_43 : decode cX4_endMonth 43 = .ok (.iconst 0, 1) := dk_3 (dk_at dksX4_endMonth_1 23 rfl rfl)
theorem dX4_endMonth_44 : decode cX4_endMonth 44 = .ok (.istore_n 2, 1) := dk_61 (dk_at dksX4_endMonth_2 0 rfl rfl)
theorem dX4_endMonth_45 : decode cX4_endMonth 45 = .ok (.iload_n 2, 1) := dk_28 (dk_at dksX4_endMonth_2 1 rfl rfl)
theorem dX4_endMonth_46 : decode cX4_endMonth 46 = .ok (.bipush 8, 2) := dk_16 8 (dk_at dksX4_endMonth_2 2 rfl rfl)
theorem dX4_endMonth_48 : decode cX4_endMonth 48 = .ok (.if_icmp .ge 18, 3) := dk_162 0 18 (dk_at dksX4_endMonth_2 4 rfl rfl)
theorem dX4_endMonth_51 : decode cX4_endMonth 51 = .ok (.aload_n 0, 1) := dk_42 (dk_at dksX4_endMonth_2 7 rfl rfl)
theorem dX4_endMonth_52 : decode cX4_endMonth 52 = .ok (.getfield 36, 3) := dk_180 0 36 (dk_at dksX4_endMonth_2 8 rfl rfl)
theorem dX4_endMonth_55 : decode cX4_endMonth 55 = .ok (.iload_n 1, 1) := dk_27 (dk_at dksX4_endMonth_2 11 rfl rfl)
theorem dX4_endMonth_56 : decode cX4_endMonth 56 = .ok (.aaload, 1) := dk_50 (dk_at dksX4_endMonth_2 12 rfl rfl)
theorem dX4_endMonth_57 : decode cX4_endMonth 57 = .ok (.iload_n 2, 1) := dk_28 (dk_at dksX4_endMonth_2 13 rfl rfl)
theorem dX4_endMonth_58 : decode cX4_endMonth 58 = .ok (.lconst 0, 1) := dk_9 (dk_at dksX4_endMonth_2 14 rfl rfl)
theorem dX4_endMonth_59 : decode cX4_endMonth 59 = .ok (.lastore, 1) := dk_80 (dk_at dksX4_endMonth_2 15 rfl rfl)
theorem dX4_endMonth_60 : decode cX4_endMonth 60 = .ok (.iinc 2 1, 3) := dk_132 2 1 (dk_at dksX4_endMonth_2 16 rfl rfl)
theorem dX4_endMonth_63 : decode cX4_endMonth 63 = .ok (.goto (-18), 3) := dk_167 255 238 (dk_at dksX4_endMonth_2 19 rfl rfl)
theorem dX4_endMonth_66 : decode cX4_endMonth 66 = .ok (.iinc 1 1, 3) := dk_132 1 1 (dk_at dksX4_endMonth_3 0 rfl rfl)
theorem dX4_endMonth_69 : decode cX4_endMonth 69 = .ok (.goto (-67), 3) := dk_167 255 189 (dk_at dksX4_endMonth_3 3 rfl rfl)
theorem dX4_endMonth_72 : decode cX4_endMonth 72 = .ok (.iconst 0, 1) := dk_3 (dk_at dksX4_endMonth_3 6 rfl rfl)
theorem dX4_endMonth_73 : decode cX4_endMonth 73 = .ok (.istore_n 1, 1) := dk_60 (dk_at dksX4_endMonth_3 7 rfl rfl)
theorem dX4_endMonth_74 : decode cX4_endMonth 74 = .ok (.iload_n 1, 1) := dk_27 (dk_at dksX4_endMonth_3 8 rfl rfl)
theorem dX4_endMonth_75 : decode cX4_endMonth 75 = .ok (.aload_n 0, 1) := dk_42 (dk_at dksX4_endMonth_3 9 rfl rfl)
theorem dX4_endMonth_76 : decode cX4_endMonth 76 = .ok (.getfield 24, 3) := dk_180 0 24 (dk_at dksX4_endMonth_3 10 rfl rfl)
theorem dX4_endMonth_79 : decode cX4_endMonth 79 = .ok (.invokeinterface 46 1, 5) := by decide +kernel
theorem dX4_endMonth_84 : decode cX4_endMonth 84 = .ok (.if_icmp .ge 26, 3) := dk_162 0 26 (dk_at dksX4_endMonth_3 18 rfl rfl)
theorem dX4_endMonth_87 : decode cX4_endMonth 87 = .ok (.aload_n 0, 1) := dk_42 (dk_at dksX4_endMonth_3 21 rfl rfl)
theorem dX4_endMonth_88 : decode cX4_endMonth 88 = .ok (.getfield 24, 3) := dk_180 0 24 (dk_at dksX4_endMonth_4 0 rfl rfl)
theorem dX4_endMonth_91 : decode cX4_endMonth 91 = .ok (.iload_n 1, 1) := dk_27 (dk_at dksX4_endMonth_4 3 rfl rfl)
theorem dX4_endMonth_92 : decode cX4_endMonth 92 = .ok (.invokeinterface 52 2, 5) := by decide +kernel
theorem dX4_endMonth_97 : decode cX4_endMonth 97 = .ok (.checkcast 70, 3) := dk_192 0 70 (dk_at dksX4_endMonth_4 9 rfl rfl)
theorem dX4_endMonth_100 : decode cX4_endMonth 100 = .ok (.lconst 0, 1) := dk_9 (dk_at dksX4_endMonth_4 12 rfl rfl)
theorem dX4_endMonth_101 : decode cX4_endMonth 101 = .ok (.putfield 78, 3) := dk_181 0 78 (dk_at dksX4_endMonth_4 13 rfl rfl)
theorem dX4_endMonth_104 : decode cX4_endMonth 104 = .ok (.iinc 1 1, 3) := dk_132 1 1 (dk_at dksX4_endMonth_4 16 rfl rfl)
theorem dX4_endMonth_107 : decode cX4_endMonth 107 = .ok (.goto (-33), 3) := dk_167 255 223 (dk_at dksX4_endMonth_4 19 rfl rfl)
theorem dX4_endMonth_110 : decode cX4_endMonth 110 = .ok (.aload_n 0, 1) := dk_42 (dk_at dksX4_endMonth_4 22 rfl rfl)
theorem dX4_endMonth_111 : decode cX4_endMonth 111 = .ok (.dup, 1) := dk_89 (dk_at dksX4_endMonth_4 23 rfl rfl)
theorem dX4_endMonth_112 : decode cX4_endMonth 112 = .ok (.getfield 58, 3) := dk_180 0 58 (dk_at dksX4_endMonth_5 0 rfl rfl)
theorem dX4_endMonth_115 : decode cX4_endMonth 115 = .ok (.iconst 1, 1) := dk_4 (dk_at dksX4_endMonth_5 3 rfl rfl)
theorem dX4_endMonth_116 : decode cX4_endMonth 116 = .ok (.iadd, 1) := dk_96 (dk_at dksX4_endMonth_5 4 rfl rfl)
theorem dX4_endMonth_117 : decode cX4_endMonth 117 = .ok (.putfield 58, 3) := dk_181 0 58 (dk_at dksX4_endMonth_5 5 rfl rfl)
theorem dX4_endMonth_120 : decode cX4_endMonth 120 = .ok (.return_, 1) := dk_177 (dk_at dksX4_endMonth_5 8 rfl rfl)
abbrev cX4_nearest : ByteArray := prog_3_method_14_code
def yX4_nearest : MethodName := ⟨RX4, "nearest", "(II)I"⟩
def dkwX4_nearest_3 : List UInt8 := [184, 0, 216, 62, 132, 4, 1, 167, 255, 187, 29, 172]
abbrev dktX4_nearest_3 : List UInt8 := dkwX4_nearest_3 ++ []
def dkwX4_nearest_2 : List UInt8 := [2, 159, 0, 12, 25, 5, 180, 0, 75, 28, 160, 0, 17, 29, 25, 5, 180, 0, 72, 27, 184, 0, 212]
abbrev dktX4_nearest_2 : List UInt8 := dkwX4_nearest_2 ++ dktX4_nearest_3
def dkwX4_nearest_1 : List UInt8 := [180, 0, 24, 21, 4, 185, 0, 52, 2, 0, 192, 0, 70, 58, 5, 25, 5, 182, 0, 209, 153, 0, 31, 28]
abbrev dktX4_nearest_1 : List UInt8 := dkwX4_nearest_1 ++ dktX4_nearest_2
def dkwX4_nearest_0 : List UInt8 := [17, 3, 232, 62, 3, 54, 4, 21, 4, 42, 180, 0, 24, 185, 0, 46, 1, 0, 162, 0, 61, 42]
abbrev dktX4_nearest_0 : List UInt8 := dkwX4_nearest_0 ++ dktX4_nearest_1
theorem dksX4_nearest_0 : cX4_nearest.data.toList.drop 0 = dktX4_nearest_0 := by decide +kernel
theorem dksX4_nearest_1 : cX4_nearest.data.toList.drop 22 = dktX4_nearest_1 := dk_seg dksX4_nearest_0 22 rfl rfl
theorem dksX4_nearest_2 : cX4_nearest.data.toList.drop 46 = dktX4_nearest_2 := dk_seg dksX4_nearest_1 24 rfl rfl
theorem dksX4_nearest_3 : cX4_nearest.data.toList.drop 69 = dktX4_nearest_3 := dk_seg dksX4_nearest_2 23 rfl rfl
theorem dX4_nearest_0 : decode cX4_nearest 0 = .ok (.sipush 1000, 3) := dk_17 3 232 (dk_at dksX4_nearest_0 0 rfl rfl)
theorem dX4_nearest_3 : decode cX4_nearest 3 = .ok (.istore_n 3, 1) := dk_62 (dk_at dksX4_nearest_0 3 rfl rfl)
theorem dX4_nearest_4 : decode cX4_nearest 4 = .ok (.iconst 0, 1) := dk_3 (dk_at dksX4_nearest_0 4 rfl rfl)
theorem dX4_nearest_5 : decode cX4_nearest 5 = .ok (.istore 4, 2) := dk_54 4 (dk_at dksX4_nearest_0 5 rfl rfl)
theorem dX4_nearest_7 : decode cX4_nearest 7 = .ok (.iload 4, 2) := dk_21 4 (dk_at dksX4_nearest_0 7 rfl rfl)
theorem dX4_nearest_9 : decode cX4_nearest 9 = .ok (.aload_n 0, 1) := dk_42 (dk_at dksX4_nearest_0 9 rfl rfl)
theorem dX4_nearest_10 : decode cX4_nearest 10 = .ok (.getfield 24, 3) := dk_180 0 24 (dk_at dksX4_nearest_0 10 rfl rfl)
theorem dX4_nearest_13 : decode cX4_nearest 13 = .ok (.invokeinterface 46 1, 5) := by decide +kernel
theorem dX4_nearest_18 : decode cX4_nearest 18 = .ok (.if_icmp .ge 61, 3) := dk_162 0 61 (dk_at dksX4_nearest_0 18 rfl rfl)
theorem dX4_nearest_21 : decode cX4_nearest 21 = .ok (.aload_n 0, 1) := dk_42 (dk_at dksX4_nearest_0 21 rfl rfl)
theorem dX4_nearest_22 : decode cX4_nearest 22 = .ok (.getfield 24, 3) := dk_180 0 24 (dk_at dksX4_nearest_1 0 rfl rfl)
theorem dX4_nearest_25 : decode cX4_nearest 25 = .ok (.iload 4, 2) := dk_21 4 (dk_at dksX4_nearest_1 3 rfl rfl)
theorem dX4_nearest_27 : decode cX4_nearest 27 = .ok (.invokeinterface 52 2, 5) := by decide +kernel
theorem dX4_nearest_32 : decode cX4_nearest 32 = .ok (.checkcast 70, 3) := dk_192 0 70 (dk_at dksX4_nearest_1 10 rfl rfl)
theorem dX4_nearest_35 : decode cX4_nearest 35 = .ok (.astore 5, 2) := dk_58 5 (dk_at dksX4_nearest_1 13 rfl rfl)
theorem dX4_nearest_37 : decode cX4_nearest 37 = .ok (.aload 5, 2) := dk_25 5 (dk_at dksX4_nearest_1 15 rfl rfl)
theorem dX4_nearest_39 : decode cX4_nearest 39 = .ok (.invokevirtual 209, 3) := dk_182 0 209 (dk_at dksX4_nearest_1 17 rfl rfl)
theorem dX4_nearest_42 : decode cX4_nearest 42 = .ok (.ifCond .eq 31, 3) := dk_153 0 31 (dk_at dksX4_nearest_1 20 rfl rfl)
theorem dX4_nearest_45 : decode cX4_nearest 45 = .ok (.iload_n 2, 1) := dk_28 (dk_at dksX4_nearest_1 23 rfl rfl)
theorem dX4_nearest_46 : decode cX4_nearest 46 = .ok (.iconst (-1), 1) := dk_2 (dk_at dksX4_nearest_2 0 rfl rfl)
theorem dX4_nearest_47 : decode cX4_nearest 47 = .ok (.if_icmp .eq 12, 3) := dk_159 0 12 (dk_at dksX4_nearest_2 1 rfl rfl)
theorem dX4_nearest_50 : decode cX4_nearest 50 = .ok (.aload 5, 2) := dk_25 5 (dk_at dksX4_nearest_2 4 rfl rfl)
theorem dX4_nearest_52 : decode cX4_nearest 52 = .ok (.getfield 75, 3) := dk_180 0 75 (dk_at dksX4_nearest_2 6 rfl rfl)
theorem dX4_nearest_55 : decode cX4_nearest 55 = .ok (.iload_n 2, 1) := dk_28 (dk_at dksX4_nearest_2 9 rfl rfl)
theorem dX4_nearest_56 : decode cX4_nearest 56 = .ok (.if_icmp .ne 17, 3) := dk_160 0 17 (dk_at dksX4_nearest_2 10 rfl rfl)
theorem dX4_nearest_59 : decode cX4_nearest 59 = .ok (.iload_n 3, 1) := dk_29 (dk_at dksX4_nearest_2 13 rfl rfl)
theorem dX4_nearest_60 : decode cX4_nearest 60 = .ok (.aload 5, 2) := dk_25 5 (dk_at dksX4_nearest_2 14 rfl rfl)
theorem dX4_nearest_62 : decode cX4_nearest 62 = .ok (.getfield 72, 3) := dk_180 0 72 (dk_at dksX4_nearest_2 16 rfl rfl)
theorem dX4_nearest_65 : decode cX4_nearest 65 = .ok (.iload_n 1, 1) := dk_27 (dk_at dksX4_nearest_2 19 rfl rfl)
theorem dX4_nearest_66 : decode cX4_nearest 66 = .ok (.invokestatic 212, 3) := dk_184 0 212 (dk_at dksX4_nearest_2 20 rfl rfl)
theorem dX4_nearest_69 : decode cX4_nearest 69 = .ok (.invokestatic 216, 3) := dk_184 0 216 (dk_at dksX4_nearest_3 0 rfl rfl)
theorem dX4_nearest_72 : decode cX4_nearest 72 = .ok (.istore_n 3, 1) := dk_62 (dk_at dksX4_nearest_3 3 rfl rfl)
theorem dX4_nearest_73 : decode cX4_nearest 73 = .ok (.iinc 4 1, 3) := dk_132 4 1 (dk_at dksX4_nearest_3 4 rfl rfl)
theorem dX4_nearest_76 : decode cX4_nearest 76 = .ok (.goto (-69), 3) := dk_167 255 187 (dk_at dksX4_nearest_3 7 rfl rfl)
theorem dX4_nearest_79 : decode cX4_nearest 79 = .ok (.iload_n 3, 1) := dk_29 (dk_at dksX4_nearest_3 10 rfl rfl)
theorem dX4_nearest_80 : decode cX4_nearest 80 = .ok (.ireturn, 1) := dk_172 (dk_at dksX4_nearest_3 11 rfl rfl)
abbrev cX4_terminate : ByteArray := prog_3_method_15_code
def yX4_terminate : MethodName := ⟨RX4, "terminate", "(I)V"⟩
def dkwX4_terminate_5 : List UInt8 := [160, 0, 13, 42, 180, 0, 30, 180, 0, 222, 29, 2, 84, 132, 3, 1, 167, 255, 223, 177]
abbrev dktX4_terminate_5 : List UInt8 := dkwX4_terminate_5 ++ []
def dkwX4_terminate_4 : List UInt8 := [167, 255, 203, 3, 62, 29, 17, 3, 132, 162, 0, 32, 42, 180, 0, 30, 180, 0, 222, 29, 51, 27]
abbrev dktX4_terminate_4 : List UInt8 := dkwX4_terminate_4 ++ dktX4_terminate_5
def dkwX4_terminate_3 : List UInt8 := [27, 160, 0, 20, 42, 180, 0, 24, 29, 185, 0, 52, 2, 0, 192, 0, 70, 2, 181, 0, 75, 132, 3, 1]
abbrev dktX4_terminate_3 : List UInt8 := dkwX4_terminate_3 ++ dktX4_terminate_4
def dkwX4_terminate_2 : List UInt8 := [185, 0, 46, 1, 0, 162, 0, 46, 42, 180, 0, 24, 29, 185, 0, 52, 2, 0, 192, 0, 70, 180, 0, 75]
abbrev dktX4_terminate_2 : List UInt8 := dkwX4_terminate_2 ++ dktX4_terminate_3
def dkwX4_terminate_1 : List UInt8 := [182, 0, 221, 153, 0, 11, 44, 180, 0, 161, 6, 181, 0, 165, 3, 62, 29, 42, 180, 0, 24]
abbrev dktX4_terminate_1 : List UInt8 := dkwX4_terminate_1 ++ dktX4_terminate_2
def dkwX4_terminate_0 : List UInt8 := [42, 180, 0, 20, 27, 185, 0, 52, 2, 0, 192, 0, 56, 77, 44, 4, 181, 0, 218, 44, 180, 0, 161]
abbrev dktX4_terminate_0 : List UInt8 := dkwX4_terminate_0 ++ dktX4_terminate_1
theorem dksX4_terminate_0 : cX4_terminate.data.toList.drop 0 = dktX4_terminate_0 := by decide +kernel
theorem dksX4_terminate_1 : cX4_terminate.data.toList.drop 23 = dktX4_terminate_1 := dk_seg dksX4_terminate_0 23 rfl rfl
theorem dksX4_terminate_2 : cX4_terminate.data.toList.drop 44 = dktX4_terminate_2 := dk_seg dksX4_terminate_1 21 rfl rfl
theorem dksX4_terminate_3 : cX4_terminate.data.toList.drop 68 = dktX4_terminate_3 := dk_seg dksX4_terminate_2 24 rfl rfl
theorem dksX4_terminate_4 : cX4_terminate.data.toList.drop 92 = dktX4_terminate_4 := dk_seg dksX4_terminate_3 24 rfl rfl
theorem dksX4_terminate_5 : cX4_terminate.data.toList.drop 114 = dktX4_terminate_5 := dk_seg dksX4_terminate_4 22 rfl rfl
theorem dX4_terminate_0 : decode cX4_terminate 0 = .ok (.aload_n 0, 1) := dk_42 (dk_at dksX4_terminate_0 0 rfl rfl)
theorem dX4_terminate_1 : decode cX4_terminate 1 = .ok (.getfield 20, 3) := dk_180 0 20 (dk_at dksX4_terminate_0 1 rfl rfl)
theorem dX4_terminate_4 : decode cX4_terminate 4 = .ok (.iload_n 1, 1) := dk_27 (dk_at dksX4_terminate_0 4 rfl rfl)
theorem dX4_terminate_5 : decode cX4_terminate 5 = .ok (.invokeinterface 52 2, 5) := by decide +kernel
theorem dX4_terminate_10 : decode cX4_terminate 10 = .ok (.checkcast 56, 3) := dk_192 0 56 (dk_at dksX4_terminate_0 10 rfl rfl)
theorem dX4_terminate_13 : decode cX4_terminate 13 = .ok (.astore_n 2, 1) := dk_77 (dk_at dksX4_terminate_0 13 rfl rfl)
theorem dX4_terminate_14 : decode cX4_terminate 14 = .ok (.aload_n 2, 1) := dk_44 (dk_at dksX4_terminate_0 14 rfl rfl)
theorem dX4_terminate_15 : decode cX4_terminate 15 = .ok (.iconst 1, 1) := dk_4 (dk_at dksX4_terminate_0 15 rfl rfl)
theorem dX4_terminate_16 : decode cX4_terminate 16 = .ok (.putfield 218, 3) := dk_181 0 218 (dk_at dksX4_terminate_0 16 rfl rfl)
theorem dX4_terminate_19 : decode cX4_terminate 19 = .ok (.aload_n 2, 1) := dk_44 (dk_at dksX4_terminate_0 19 rfl rfl)
theorem dX4_terminate_20 : decode cX4_terminate 20 = .ok (.getfield 161, 3) := dk_180 0 161 (dk_at dksX4_terminate_0 20 rfl rfl)
theorem dX4_terminate_23 : decode cX4_terminate 23 = .ok (.invokevirtual 221, 3) := dk_182 0 221 (dk_at dksX4_terminate_1 0 rfl rfl)
theorem dX4_terminate_26 : decode cX4_terminate 26 = .ok (.ifCond .eq 11, 3) := dk_153 0 11 (dk_at dksX4_terminate_1 3 rfl rfl)
theorem dX4_terminate_29 : decode cX4_terminate 29 = .ok (.aload_n 2, 1) := dk_44 (dk_at dksX4_terminate_1 6 rfl rfl)
theorem dX4_terminate_30 : decode cX4_terminate 30 = .ok (.getfield 161, 3) := dk_180 0 161 (dk_at dksX4_terminate_1 7 rfl rfl)
theorem dX4_terminate_33 : decode cX4_terminate 33 = .ok (.iconst 3, 1) := dk_6 (dk_at dksX4_terminate_1 10 rfl rfl)
theorem dX4_terminate_34 : decode cX4_terminate 34 = .ok (.putfield 165, 3) := dk_181 0 165 (dk_at dksX4_terminate_1 11 rfl rfl)
theorem dX4_terminate_37 : decode cX4_terminate 37 = .ok (.iconst 0, 1) := dk_3 (dk_at dksX4_terminate_1 14 rfl rfl)
theorem dX4_terminate_38 : decode cX4_terminate 38 = .ok (.istore_n 3, 1) := dk_62 (dk_at dksX4_terminate_1 15 rfl rfl)
theorem dX4_terminate_39 : decode cX4_terminate 39 = .ok (.iload_n 3, 1) := dk_29 (dk_at dksX4_terminate_1 16 rfl rfl)
theorem dX4_terminate_40 : decode cX4_terminate 40 = .ok (.aload_n 0, 1) := dk_42 (dk_at dksX4_terminate_1 17 rfl rfl)
theorem dX4_terminate_41 : decode cX4_terminate 41 = .ok (.getfield 24, 3) := dk_180 0 24 (dk_at dksX4_terminate_1 18 rfl rfl)
theorem dX4_terminate_44 : decode cX4_terminate 44 = .ok (.invokeinterface 46 1, 5) := by decide +kernel
theorem dX4_terminate_49 : decode cX4_terminate 49 = .ok (.if_icmp .ge 46, 3) := dk_162 0 46 (dk_at dksX4_terminate_2 5 rfl rfl)
theorem dX4_terminate_52 : decode cX4_terminate 52 = .ok (.aload_n 0, 1) := dk_42 (dk_at dksX4_terminate_2 8 rfl rfl)
theorem dX4_terminate_53 : decode cX4_terminate 53 = .ok (.getfield 24, 3) := dk_180 0 24 (dk_at dksX4_terminate_2 9 rfl rfl)
theorem dX4_terminate_56 : decode cX4_terminate 56 = .ok (.iload_n 3, 1) := dk_29 (dk_at dksX4_terminate_2 12 rfl rfl)
theorem dX4_terminate_57 : decode cX4_terminate 57 = .ok (.invokeinterface 52 2, 5) := by decide +kernel
theorem dX4_terminate_62 : decode cX4_terminate 62 = .ok (.checkcast 70, 3) := dk_192 0 70 (dk_at dksX4_terminate_2 18 rfl rfl)
theorem dX4_terminate_65 : decode cX4_terminate 65 = .ok (.getfield 75, 3) := dk_180 0 75 (dk_at dksX4_terminate_2 21 rfl rfl)
theorem dX4_terminate_68 : decode cX4_terminate 68 = .ok (.iload_n 1, 1) := dk_27 (dk_at dksX4_terminate_3 0 rfl rfl)
theorem dX4_terminate_69 : decode cX4_terminate 69 = .ok (.if_icmp .ne 20, 3) := dk_160 0 20 (dk_at dksX4_terminate_3 1 rfl rfl)
theorem dX4_terminate_72 : decode cX4_terminate 72 = .ok (.aload_n 0, 1) := dk_42 (dk_at dksX4_terminate_3 4 rfl rfl)
theorem dX4_terminate_73 : decode cX4_terminate 73 = .ok (.getfield 24, 3) := dk_180 0 24 (dk_at dksX4_terminate_3 5 rfl rfl)
theorem dX4_terminate_76 : decode cX4_terminate 76 = .ok (.iload_n 3, 1) := dk_29 (dk_at dksX4_terminate_3 8 rfl rfl)
theorem dX4_terminate_77 : decode cX4_terminate 77 = .ok (.invokeinterface 52 2, 5) := by decide +kernel
theorem dX4_terminate_82 : decode cX4_terminate 82 = .ok (.checkcast 70, 3) := dk_192 0 70 (dk_at dksX4_terminate_3 14 rfl rfl)
theorem dX4_terminate_85 : decode cX4_terminate 85 = .ok (.iconst (-1), 1) := dk_2 (dk_at dksX4_terminate_3 17 rfl rfl)
theorem dX4_terminate_86 : decode cX4_terminate 86 = .ok (.putfield 75, 3) := dk_181 0 75 (dk_at dksX4_terminate_3 18 rfl rfl)
theorem dX4_terminate_89 : decode cX4_terminate 89 = .ok (.iinc 3 1, 3) := dk_132 3 1 (dk_at dksX4_terminate_3 21 rfl rfl)
theorem dX4_terminate_92 : decode cX4_terminate 92 = .ok (.goto (-53), 3) := dk_167 255 203 (dk_at dksX4_terminate_4 0 rfl rfl)
theorem dX4_terminate_95 : decode cX4_terminate 95 = .ok (.iconst 0, 1) := dk_3 (dk_at dksX4_terminate_4 3 rfl rfl)
theorem dX4_terminate_96 : decode cX4_terminate 96 = .ok (.istore_n 3, 1) := dk_62 (dk_at dksX4_terminate_4 4 rfl rfl)
theorem dX4_terminate_97 : decode cX4_terminate 97 = .ok (.iload_n 3, 1) := dk_29 (dk_at dksX4_terminate_4 5 rfl rfl)
theorem dX4_terminate_98 : decode cX4_terminate 98 = .ok (.sipush 900, 3) := dk_17 3 132 (dk_at dksX4_terminate_4 6 rfl rfl)
theorem dX4_terminate_101 : decode cX4_terminate 101 = .ok (.if_icmp .ge 32, 3) := dk_162 0 32 (dk_at dksX4_terminate_4 9 rfl rfl)
theorem dX4_terminate_104 : decode cX4_terminate 104 = .ok (.aload_n 0, 1) := dk_42 (dk_at dksX4_terminate_4 12 rfl rfl)
theorem dX4_terminate_105 : decode cX4_terminate 105 = .ok (.getfield 30, 3) := dk_180 0 30 (dk_at dksX4_terminate_4 13 rfl rfl)
theorem dX4_terminate_108 : decode cX4_terminate 108 = .ok (.getfield 222, 3) := dk_180 0 222 (dk_at dksX4_terminate_4 16 rfl rfl)
theorem dX4_terminate_111 : decode cX4_terminate 111 = .ok (.iload_n 3, 1) := dk_29 (dk_at dksX4_terminate_4 19 rfl rfl)
theorem dX4_terminate_112 : decode cX4_terminate 112 = .ok (.baload, 1) := dk_51 (dk_at dksX4_terminate_4 20 rfl rfl)
theorem dX4_terminate_113 : decode cX4_terminate 113 = .ok (.iload_n 1, 1) := dk_27 (dk_at dksX4_terminate_4 21 rfl rfl)
theorem dX4_terminate_114 : decode cX4_terminate 114 = .ok (.if_icmp .ne 13, 3) := dk_160 0 13 (dk_at dksX4_terminate_5 0 rfl rfl)
theorem dX4_terminate_117 : decode cX4_terminate 117 = .ok (.aload_n 0, 1) := dk_42 (dk_at dksX4_terminate_5 3 rfl rfl)
theorem dX4_terminate_118 : decode cX4_terminate 118 = .ok (.getfield 30, 3) := dk_180 0 30 (dk_at dksX4_terminate_5 4 rfl rfl)
theorem dX4_terminate_121 : decode cX4_terminate 121 = .ok (.getfield 222, 3) := dk_180 0 222 (dk_at dksX4_terminate_5 7 rfl rfl)
theorem dX4_terminate_124 : decode cX4_terminate 124 = .ok (.iload_n 3, 1) := dk_29 (dk_at dksX4_terminate_5 10 rfl rfl)
theorem dX4_terminate_125 : decode cX4_terminate 125 = .ok (.iconst (-1), 1) := dk_2 (dk_at dksX4_terminate_5 11 rfl rfl)
theorem dX4_terminate_126 : decode cX4_terminate 126 = .ok (.bastore, 1) := dk_84 (dk_at dksX4_terminate_5 12 rfl rfl)
theorem dX4_terminate_127 : decode cX4_terminate 127 = .ok (.iinc 3 1, 3) := dk_132 3 1 (dk_at dksX4_terminate_5 13 rfl rfl)
theorem dX4_terminate_130 : decode cX4_terminate 130 = .ok (.goto (-33), 3) := dk_167 255 223 (dk_at dksX4_terminate_5 16 rfl rfl)
theorem dX4_terminate_133 : decode cX4_terminate 133 = .ok (.return_, 1) := dk_177 (dk_at dksX4_terminate_5 19 rfl rfl)
abbrev cX4_share : ByteArray := prog_3_method_17_code
def yX4_share : MethodName := ⟨RX4, "share", "(I)J"⟩
def dkwX4_share_5 : List UInt8 := [21, 6, 133, 22, 4, 148, 156, 0, 7, 10, 167, 0, 4, 9, 97, 173]
abbrev dktX4_share_5 : List UInt8 := dkwX4_share_5 ++ []
def dkwX4_share_4 : List UInt8 := [162, 0, 7, 4, 167, 0, 4, 3, 96, 54, 6, 132, 9, 1, 167, 255, 184, 42, 27, 32, 3, 182, 0, 226]
abbrev dktX4_share_4 : List UInt8 := dkwX4_share_4 ++ dktX4_share_5
def dkwX4_share_3 : List UInt8 := [55, 10, 21, 6, 22, 10, 22, 7, 148, 157, 0, 17, 22, 10, 22, 7, 148, 154, 0, 13, 21, 9, 27]
abbrev dktX4_share_3 : List UInt8 := dkwX4_share_3 ++ dktX4_share_4
def dkwX4_share_2 : List UInt8 := [162, 0, 64, 22, 4, 42, 21, 9, 32, 3, 182, 0, 226, 101, 55, 4, 42, 21, 9, 32, 4, 182, 0, 226]
abbrev dktX4_share_2 : List UInt8 := dkwX4_share_2 ++ dktX4_share_3
def dkwX4_share_1 : List UInt8 := [42, 27, 32, 4, 182, 0, 226, 55, 7, 3, 54, 9, 21, 9, 42, 180, 0, 20, 185, 0, 46, 1, 0]
abbrev dktX4_share_1 : List UInt8 := dkwX4_share_1 ++ dktX4_share_2
def dkwX4_share_0 : List UInt8 := [42, 182, 0, 206, 65, 32, 9, 148, 154, 0, 5, 9, 173, 42, 180, 0, 39, 4, 47, 55, 4, 3, 54, 6]
abbrev dktX4_share_0 : List UInt8 := dkwX4_share_0 ++ dktX4_share_1
theorem dksX4_share_0 : cX4_share.data.toList.drop 0 = dktX4_share_0 := by decide +kernel
theorem dksX4_share_1 : cX4_share.data.toList.drop 24 = dktX4_share_1 := dk_seg dksX4_share_0 24 rfl rfl
theorem dksX4_share_2 : cX4_share.data.toList.drop 47 = dktX4_share_2 := dk_seg dksX4_share_1 23 rfl rfl
theorem dksX4_share_3 : cX4_share.data.toList.drop 71 = dktX4_share_3 := dk_seg dksX4_share_2 24 rfl rfl
theorem dksX4_share_4 : cX4_share.data.toList.drop 94 = dktX4_share_4 := dk_seg dksX4_share_3 23 rfl rfl
theorem dksX4_share_5 : cX4_share.data.toList.drop 118 = dktX4_share_5 := dk_seg dksX4_share_4 24 rfl rfl
theorem dX4_share_0 : decode cX4_share 0 = .ok (.aload_n 0, 1) := dk_42 (dk_at dksX4_share_0 0 rfl rfl)
theorem dX4_share_1 : decode cX4_share 1 = .ok (.invokevirtual 206, 3) := dk_182 0 206 (dk_at dksX4_share_0 1 rfl rfl)
theorem dX4_share_4 : decode cX4_share 4 = .ok (.lstore_n 2, 1) := dk_65 (dk_at dksX4_share_0 4 rfl rfl)
theorem dX4_share_5 : decode cX4_share 5 = .ok (.lload_n 2, 1) := dk_32 (dk_at dksX4_share_0 5 rfl rfl)
theorem dX4_share_6 : decode cX4_share 6 = .ok (.lconst 0, 1) := dk_9 (dk_at dksX4_share_0 6 rfl rfl)
theorem dX4_share_7 : decode cX4_share 7 = .ok (.lcmp, 1) := dk_148 (dk_at dksX4_share_0 7 rfl rfl)
theorem dX4_share_8 : decode cX4_share 8 = .ok (.ifCond .ne 5, 3) := dk_154 0 5 (dk_at dksX4_share_0 8 rfl rfl)
theorem dX4_share_11 : decode cX4_share 11 = .ok (.lconst 0, 1) := dk_9 (dk_at dksX4_share_0 11 rfl rfl)
theorem dX4_share_12 : decode cX4_share 12 = .ok (.lreturn, 1) := dk_173 (dk_at dksX4_share_0 12 rfl rfl)
theorem dX4_share_13 : decode cX4_share 13 = .ok (.aload_n 0, 1) := dk_42 (dk_at dksX4_share_0 13 rfl rfl)
theorem dX4_share_14 : decode cX4_share 14 = .ok (.getfield 39, 3) := dk_180 0 39 (dk_at dksX4_share_0 14 rfl rfl)
theorem dX4_share_17 : decode cX4_share 17 = .ok (.iconst 1, 1) := dk_4 (dk_at dksX4_share_0 17 rfl rfl)
theorem dX4_share_18 : decode cX4_share 18 = .ok (.laload, 1) := dk_47 (dk_at dksX4_share_0 18 rfl rfl)
theorem dX4_share_19 : decode cX4_share 19 = .ok (.lstore 4, 2) := dk_55 4 (dk_at dksX4_share_0 19 rfl rfl)
theorem dX4_share_21 : decode cX4_share 21 = .ok (.iconst 0, 1) := dk_3 (dk_at dksX4_share_0 21 rfl rfl)
theorem dX4_share_22 : decode cX4_share 22 = .ok (.istore 6, 2) := dk_54 6 (dk_at dksX4_share_0 22 rfl rfl)
theorem dX4_share_24 : decode cX4_share 24 = .ok (.aload_n 0, 1) := dk_42 (dk_at dksX4_share_1 0 rfl rfl)
theorem dX4_share_25 : decode cX4_share 25 = .ok (.iload_n 1, 1) := dk_27 (dk_at dksX4_share_1 1 rfl rfl)
theorem dX4_share_26 : decode cX4_share 26 = .ok (.lload_n 2, 1) := dk_32 (dk_at dksX4_share_1 2 rfl rfl)
theorem dX4_share_27 : decode cX4_share 27 = .ok (.iconst 1, 1) := dk_4 (dk_at dksX4_share_1 3 rfl rfl)
theorem dX4_share_28 : decode cX4_share 28 = .ok (.invokevirtual 226, 3) := dk_182 0 226 (dk_at dksX4_share_1 4 rfl rfl)
theorem dX4_share_31 : decode cX4_share 31 = .ok (.lstore 7, 2) := dk_55 7 (dk_at dksX4_share_1 7 rfl rfl)
theorem dX4_share_33 : decode cX4_share 33 = .ok (.iconst 0, 1) := dk_3 (dk_at dksX4_share_1 9 rfl rfl)
theorem dX4_share_34 : decode cX4_share 34 = .ok (.istore 9, 2) := dk_54 9 (dk_at dksX4_share_1 10 rfl rfl)
theorem dX4_share_36 : decode cX4_share 36 = .ok (.iload 9, 2) := dk_21 9 (dk_at dksX4_share_1 12 rfl rfl)
theorem dX4_share_38 : decode cX4_share 38 = .ok (.aload_n 0, 1) := dk_42 (dk_at dksX4_share_1 14 rfl rfl)
theorem dX4_share_39 : decode cX4_share 39 = .ok (.getfield 20, 3) := dk_180 0 20 (dk_at dksX4_share_1 15 rfl rfl)
theorem dX4_share_42 : decode cX4_share 42 = .ok (.invokeinterface 46 1, 5) := by decide +kernel
theorem dX4_share_47 : decode cX4_share 47 = .ok (.if_icmp .ge 64, 3) := dk_162 0 64 (dk_at dksX4_share_2 0 rfl rfl)
theorem dX4_share_50 : decode cX4_share 50 = .ok (.lload 4, 2) := dk_22 4 (dk_at dksX4_share_2 3 rfl rfl)
theorem dX4_share_52 : decode cX4_share 52 = .ok (.aload_n 0, 1) := dk_42 (dk_at dksX4_share_2 5 rfl rfl)
theorem dX4_share_53 : decode cX4_share 53 = .ok (.iload 9, 2) := dk_21 9 (dk_at dksX4_share_2 6 rfl rfl)
theorem dX4_share_55 : decode cX4_share 55 = .ok (.lload_n 2, 1) := dk_32 (dk_at dksX4_share_2 8 rfl rfl)
theorem dX4_share_56 : decode cX4_share 56 = .ok (.iconst 0, 1) := dk_3 (dk_at dksX4_share_2 9 rfl rfl)
theorem dX4_share_57 : decode cX4_share 57 = .ok (.invokevirtual 226, 3) := dk_182 0 226 (dk_at dksX4_share_2 10 rfl rfl)
theorem dX4_share_60 : decode cX4_share 60 = .ok (.lsub, 1) := dk_101 (dk_at dksX4_share_2 13 rfl rfl)
theorem dX4_share_61 : decode cX4_share 61 = .ok (.lstore 4, 2) := dk_55 4 (dk_at dksX4_share_2 14 rfl rfl)
theorem dX4_share_63 : decode cX4_share 63 = .ok (.aload_n 0, 1) := dk_42 (dk_at dksX4_share_2 16 rfl rfl)
theorem dX4_share_64 : decode cX4_share 64 = .ok (.iload 9, 2) := dk_21 9 (dk_at dksX4_share_2 17 rfl rfl)
theorem dX4_share_66 : decode cX4_share 66 = .ok (.lload_n 2, 1) := dk_32 (dk_at dksX4_share_2 19 rfl rfl)
theorem dX4_share_67 : decode cX4_share 67 = .ok (.iconst 1, 1) := dk_4 (dk_at dksX4_share_2 20 rfl rfl)
theorem dX4_share_68 : decode cX4_share 68 = .ok (.invokevirtual 226, 3) := dk_182 0 226 (dk_at dksX4_share_2 21 rfl rfl)
theorem dX4_share_71 : decode cX4_share 71 = .ok (.lstore 10, 2) := dk_55 10 (dk_at dksX4_share_3 0 rfl rfl)
theorem dX4_share_73 : decode cX4_share 73 = .ok (.iload 6, 2) := dk_21 6 (dk_at dksX4_share_3 2 rfl rfl)
theorem dX4_share_75 : decode cX4_share 75 = .ok (.lload 10, 2) := dk_22 10 (dk_at dksX4_share_3 4 rfl rfl)
theorem dX4_share_77 : decode cX4_share 77 = .ok (.lload 7, 2) := dk_22 7 (dk_at dksX4_share_3 6 rfl rfl)
theorem dX4_share_79 : decode cX4_share 79 = .ok (.lcmp, 1) := dk_148 (dk_at dksX4_share_3 8 rfl rfl)
theorem dX4_share_80 : decode cX4_share 80 = .ok (.ifCond .gt 17, 3) := dk_157 0 17 (dk_at dksX4_share_3 9 rfl rfl)
theorem dX4_share_83 : decode cX4_share 83 = .ok (.lload 10, 2) := dk_22 10 (dk_at dksX4_share_3 12 rfl rfl)
theorem dX4_share_85 : decode cX4_share 85 = .ok (.lload 7, 2) := dk_22 7 (dk_at dksX4_share_3 14 rfl rfl)
theorem dX4_share_87 : decode cX4_share 87 = .ok (.lcmp, 1) := dk_148 (dk_at dksX4_share_3 16 rfl rfl)
theorem dX4_share_88 : decode cX4_share 88 = .ok (.ifCond .ne 13, 3) := dk_154 0 13 (dk_at dksX4_share_3 17 rfl rfl)
theorem dX4_share_91 : decode cX4_share 91 = .ok (.iload 9, 2) := dk_21 9 (dk_at dksX4_share_3 20 rfl rfl)
theorem dX4_share_93 : decode cX4_share 93 = .ok (.iload_n 1, 1) := dk_27 (dk_at dksX4_share_3 22 rfl rfl)
theorem dX4_share_94 : decode cX4_share 94 = .ok (.if_icmp .ge 7, 3) := dk_162 0 7 (dk_at dksX4_share_4 0 rfl rfl)
theorem dX4_share_97 : decode cX4_share 97 = .ok (.iconst 1, 1) := dk_4 (dk_at dksX4_share_4 3 rfl rfl)
theorem dX4_share_98 : decode cX4_share 98 = .ok (.goto 4, 3) := dk_167 0 4 (dk_at dksX4_share_4 4 rfl rfl)
theorem dX4_share_101 : decode cX4_share 101 = .ok (.iconst 0, 1) := dk_3 (dk_at dksX4_share_4 7 rfl rfl)
theorem dX4_share_102 : decode cX4_share 102 = .ok (.iadd, 1) := dk_96 (dk_at dksX4_share_4 8 rfl rfl)
theorem dX4_share_103 : decode cX4_share 103 = .ok (.istore 6, 2) := dk_54 6 (dk_at dksX4_share_4 9 rfl rfl)
theorem dX4_share_105 : decode cX4_share 105 = .ok (.iinc 9 1, 3) := dk_132 9 1 (dk_at dksX4_share_4 11 rfl rfl)
theorem dX4_share_108 : decode cX4_share 108 = .ok (.goto (-72), 3) := dk_167 255 184 (dk_at dksX4_share_4 14 rfl rfl)
theorem dX4_share_111 : decode cX4_share 111 = .ok (.aload_n 0, 1) := dk_42 (dk_at dksX4_share_4 17 rfl rfl)
theorem dX4_share_112 : decode cX4_share 112 = .ok (.iload_n 1, 1) := dk_27 (dk_at dksX4_share_4 18 rfl rfl)
theorem dX4_share_113 : decode cX4_share 113 = .ok (.lload_n 2, 1) := dk_32 (dk_at dksX4_share_4 19 rfl rfl)
theorem dX4_share_114 : decode cX4_share 114 = .ok (.iconst 0, 1) := dk_3 (dk_at dksX4_share_4 20 rfl rfl)
theorem dX4_share_115 : decode cX4_share 115 = .ok (.invokevirtual 226, 3) := dk_182 0 226 (dk_at dksX4_share_4 21 rfl rfl)
theorem dX4_share_118 : decode cX4_share 118 = .ok (.iload 6, 2) := dk_21 6 (dk_at dksX4_share_5 0 rfl rfl)
theorem dX4_share_120 : decode cX4_share 120 = .ok (.i2l, 1) := dk_133 (dk_at dksX4_share_5 2 rfl rfl)
theorem dX4_share_121 : decode cX4_share 121 = .ok (.lload 4, 2) := dk_22 4 (dk_at dksX4_share_5 3 rfl rfl)
theorem dX4_share_123 : decode cX4_share 123 = .ok (.lcmp, 1) := dk_148 (dk_at dksX4_share_5 5 rfl rfl)
theorem dX4_share_124 : decode cX4_share 124 = .ok (.ifCond .ge 7, 3) := dk_156 0 7 (dk_at dksX4_share_5 6 rfl rfl)
theorem dX4_share_127 : decode cX4_share 127 = .ok (.lconst 1, 1) := dk_10 (dk_at dksX4_share_5 9 rfl rfl)
theorem dX4_share_128 : decode cX4_share 128 = .ok (.goto 4, 3) := dk_167 0 4 (dk_at dksX4_share_5 10 rfl rfl)
theorem dX4_share_131 : decode cX4_share 131 = .ok (.lconst 0, 1) := dk_9 (dk_at dksX4_share_5 13 rfl rfl)
theorem dX4_share_132 : decode cX4_share 132 = .ok (.ladd, 1) := dk_97 (dk_at dksX4_share_5 14 rfl rfl)
theorem dX4_share_133 : decode cX4_share 133 = .ok (.lreturn, 1) := dk_173 (dk_at dksX4_share_5 15 rfl rfl)
abbrev cX4_shareOf : ByteArray := prog_3_method_16_code
def yX4_shareOf : MethodName := ⟨RX4, "shareOf", "(IJZ)J"⟩
def dkwX4_shareOf_1 : List UInt8 := [55, 5, 21, 4, 153, 0, 10, 22, 5, 32, 113, 167, 0, 7, 22, 5, 32, 109, 173]
abbrev dktX4_shareOf_1 : List UInt8 := dkwX4_shareOf_1 ++ []
def dkwX4_shareOf_0 : List UInt8 := [42, 180, 0, 39, 4, 47, 42, 180, 0, 20, 27, 185, 0, 52, 2, 0, 192, 0, 56, 180, 0, 158, 105]
abbrev dktX4_shareOf_0 : List UInt8 := dkwX4_shareOf_0 ++ dktX4_shareOf_1
theorem dksX4_shareOf_0 : cX4_shareOf.data.toList.drop 0 = dktX4_shareOf_0 := by decide +kernel
theorem dksX4_shareOf_1 : cX4_shareOf.data.toList.drop 23 = dktX4_shareOf_1 := dk_seg dksX4_shareOf_0 23 rfl rfl
theorem dX4_shareOf_0 : decode cX4_shareOf 0 = .ok (.aload_n 0, 1) := dk_42 (dk_at dksX4_shareOf_0 0 rfl rfl)
theorem dX4_shareOf_1 : decode cX4_shareOf 1 = .ok (.getfield 39, 3) := dk_180 0 39 (dk_at dksX4_shareOf_0 1 rfl rfl)
theorem dX4_shareOf_4 : decode cX4_shareOf 4 = .ok (.iconst 1, 1) := dk_4 (dk_at dksX4_shareOf_0 4 rfl rfl)
theorem dX4_shareOf_5 : decode cX4_shareOf 5 = .ok (.laload, 1) := dk_47 (dk_at dksX4_shareOf_0 5 rfl rfl)
theorem dX4_shareOf_6 : decode cX4_shareOf 6 = .ok (.aload_n 0, 1) := dk_42 (dk_at dksX4_shareOf_0 6 rfl rfl)
theorem dX4_shareOf_7 : decode cX4_shareOf 7 = .ok (.getfield 20, 3) := dk_180 0 20 (dk_at dksX4_shareOf_0 7 rfl rfl)
theorem dX4_shareOf_10 : decode cX4_shareOf 10 = .ok (.iload_n 1, 1) := dk_27 (dk_at dksX4_shareOf_0 10 rfl rfl)
theorem dX4_shareOf_11 : decode cX4_shareOf 11 = .ok (.invokeinterface 52 2, 5) := by decide +kernel
theorem dX4_shareOf_16 : decode cX4_shareOf 16 = .ok (.checkcast 56, 3) := dk_192 0 56 (dk_at dksX4_shareOf_0 16 rfl rfl)
theorem dX4_shareOf_19 : decode cX4_shareOf 19 = .ok (.getfield 158, 3) := dk_180 0 158 (dk_at dksX4_shareOf_0 19 rfl rfl)
theorem dX4_shareOf_22 : decode cX4_shareOf 22 = .ok (.lmul, 1) := dk_105 (dk_at dksX4_shareOf_0 22 rfl rfl)
theorem dX4_shareOf_23 : decode cX4_shareOf 23 = .ok (.lstore 5, 2) := dk_55 5 (dk_at dksX4_shareOf_1 0 rfl rfl)
theorem dX4_shareOf_25 : decode cX4_shareOf 25 = .ok (.iload 4, 2) := dk_21 4 (dk_at dksX4_shareOf_1 2 rfl rfl)
theorem dX4_shareOf_27 : decode cX4_shareOf 27 = .ok (.ifCond .eq 10, 3) := dk_153 0 10 (dk_at dksX4_shareOf_1 4 rfl rfl)
theorem dX4_shareOf_30 : decode cX4_shareOf 30 = .ok (.lload 5, 2) := dk_22 5 (dk_at dksX4_shareOf_1 7 rfl rfl)
theorem dX4_shareOf_32 : decode cX4_shareOf 32 = .ok (.lload_n 2, 1) := dk_32 (dk_at dksX4_shareOf_1 9 rfl rfl)
theorem dX4_shareOf_33 : decode cX4_shareOf 33 = .ok (.lrem, 1) := dk_113 (dk_at dksX4_shareOf_1 10 rfl rfl)
theorem dX4_shareOf_34 : decode cX4_shareOf 34 = .ok (.goto 7, 3) := dk_167 0 7 (dk_at dksX4_shareOf_1 11 rfl rfl)
theorem dX4_shareOf_37 : decode cX4_shareOf 37 = .ok (.lload 5, 2) := dk_22 5 (dk_at dksX4_shareOf_1 14 rfl rfl)
theorem dX4_shareOf_39 : decode cX4_shareOf 39 = .ok (.lload_n 2, 1) := dk_32 (dk_at dksX4_shareOf_1 16 rfl rfl)
theorem dX4_shareOf_40 : decode cX4_shareOf 40 = .ok (.ldiv, 1) := dk_109 (dk_at dksX4_shareOf_1 17 rfl rfl)
theorem dX4_shareOf_41 : decode cX4_shareOf 41 = .ok (.lreturn, 1) := dk_173 (dk_at dksX4_shareOf_1 18 rfl rfl)
theorem q152 : (Jvm.Cond.initialized "FranchiseLedger$Books") ∈ lw_all := lw_g (lw_at lw_m1 24 rfl) rfl
theorem q552 : (Jvm.Cond.fieldLinkNest "FranchiseLedger$Books" (99 : Nat) "FranchiseLedger$Rules" "plans" "Ljava/util/List;" "FranchiseLedger") ∈ lw_tbl := lw_at lw_m2 184 rfl
theorem q558 : (Jvm.Cond.fieldLinkNest "FranchiseLedger$Books" (114 : Nat) "FranchiseLedger$Rules" "credit" "LFranchiseLedger$Rate;" "FranchiseLedger") ∈ lw_tbl := lw_at lw_m2 190 rfl
theorem q561 : (Jvm.Cond.fieldLinkNest "FranchiseLedger$Books" (150 : Nat) "FranchiseLedger$Rules" "interest" "LFranchiseLedger$Rate;" "FranchiseLedger") ∈ lw_tbl := lw_at lw_m2 193 rfl
theorem q565 : (Jvm.Cond.fieldLinkNest "FranchiseLedger$Books" (197 : Nat) "FranchiseLedger$Rules" "admin" "LFranchiseLedger$Rate;" "FranchiseLedger") ∈ lw_tbl := lw_at lw_m2 197 rfl
theorem q567 : (Jvm.Cond.fieldLinkNest "FranchiseLedger$Books" (111 : Nat) "FranchiseLedger$Rules" "creditCap" "J" "FranchiseLedger") ∈ lw_tbl := lw_at lw_m2 199 rfl
theorem q569 : (Jvm.Cond.fieldLinkNest "FranchiseLedger$Books" (181 : Nat) "FranchiseLedger$Rules" "fee" "J" "FranchiseLedger") ∈ lw_tbl := lw_at lw_m2 201 rfl
theorem q571 : (Jvm.Cond.fieldLinkNest "FranchiseLedger$Books" (171 : Nat) "FranchiseLedger$Rules" "delay" "I" "FranchiseLedger") ∈ lw_tbl := lw_at lw_m2 203 rfl
theorem q600 : (Jvm.Cond.instantiable "FranchiseLedger$Books" (7 : Nat)) ∈ lw_all := lw_g (lw_at lw_m2 232 rfl) rfl
theorem q602 : (Jvm.Cond.instanceMethod ({ cls := "FranchiseLedger$Books", name := "<init>", desc := "(LFranchiseLedger;)V" } : Jvm.MethodName)) ∈ lw_all := lw_g (lw_at lw_m2 234 rfl) rfl
theorem q603 : (Jvm.Cond.code ({ cls := "FranchiseLedger$Books", name := "<init>", desc := "(LFranchiseLedger;)V" } : Jvm.MethodName) prog_3_method_1_code (2 : Nat) (Option.none : Option Jvm.ClassFile.FieldType)) ∈ lw_all := lw_g (lw_at lw_m2 235 rfl) rfl
theorem q604 : (Jvm.Cond.methodLink "FranchiseLedger$Books" (9 : Nat) ({ cls := "java/lang/Object", name := "<init>", desc := "()V" } : Jvm.MethodName)) ∈ lw_all := lw_g (lw_at lw_m2 236 rfl) rfl
theorem q605 : (Jvm.Cond.classLink "FranchiseLedger$Books" (15 : Nat) "java/util/ArrayList") ∈ lw_all := lw_g (lw_at lw_m2 237 rfl) rfl
theorem q606 : (Jvm.Cond.methodLink "FranchiseLedger$Books" (17 : Nat) ({ cls := "java/util/ArrayList", name := "<init>", desc := "(I)V" } : Jvm.MethodName)) ∈ lw_all := lw_g (lw_at lw_m2 238 rfl) rfl
theorem q607 : (Jvm.Cond.classLink "FranchiseLedger$Books" (27 : Nat) "FranchiseLedger$Grid") ∈ lw_all := lw_g (lw_at lw_m2 239 rfl) rfl
theorem q609 : (Jvm.Cond.methodLink "FranchiseLedger$Books" (29 : Nat) ({ cls := "FranchiseLedger$Grid", name := "<init>", desc := "()V" } : Jvm.MethodName)) ∈ lw_all := lw_g (lw_at lw_m3 1 rfl) rfl
theorem q614 : (Jvm.Cond.fieldLinkNest "FranchiseLedger$Books" (222 : Nat) "FranchiseLedger$Grid" "owners" "[B" "FranchiseLedger") ∈ lw_tbl := lw_at lw_m3 6 rfl
theorem q628 : (Jvm.Cond.classLink "FranchiseLedger$Books" (34 : Nat) "[[J") ∈ lw_all := lw_g (lw_at lw_m3 20 rfl) rfl
theorem q630 : (Jvm.Cond.fieldLink "FranchiseLedger$Books" (20 : Nat) "FranchiseLedger$Books" "franchisees" "Ljava/util/List;") ∈ lw_all := lw_g (lw_at lw_m3 22 rfl) rfl
theorem q633 : (Jvm.Cond.fieldLink "FranchiseLedger$Books" (24 : Nat) "FranchiseLedger$Books" "outlets" "Ljava/util/List;") ∈ lw_all := lw_g (lw_at lw_m3 25 rfl) rfl
theorem q636 : (Jvm.Cond.fieldLink "FranchiseLedger$Books" (30 : Nat) "FranchiseLedger$Books" "grid" "LFranchiseLedger$Grid;") ∈ lw_all := lw_g (lw_at lw_m3 28 rfl) rfl
theorem q639 : (Jvm.Cond.fieldLink "FranchiseLedger$Books" (36 : Nat) "FranchiseLedger$Books" "delivered" "[[J") ∈ lw_all := lw_g (lw_at lw_m3 31 rfl) rfl
theorem q641 : (Jvm.Cond.fieldLink "FranchiseLedger$Books" (39 : Nat) "FranchiseLedger$Books" "spent" "[J") ∈ lw_all := lw_g (lw_at lw_m3 33 rfl) rfl
theorem q643 : (Jvm.Cond.fieldLink "FranchiseLedger$Books" (58 : Nat) "FranchiseLedger$Books" "month" "I") ∈ lw_all := lw_g (lw_at lw_m3 35 rfl) rfl
theorem q645 : (Jvm.Cond.fieldLink "FranchiseLedger$Books" (3 : Nat) "FranchiseLedger$Books" "this$0" "LFranchiseLedger;") ∈ lw_all := lw_g (lw_at lw_m3 37 rfl) rfl
theorem q646 : (Jvm.Cond.laysFinal "FranchiseLedger$Books" "FranchiseLedger$Books" "franchisees" "Ljava/util/List;") ∈ lw_all := lw_g (lw_at lw_m3 38 rfl) rfl
theorem q647 : (Jvm.Cond.soleField "FranchiseLedger$Books" "franchisees") ∈ lw_all := lw_g (lw_at lw_m3 39 rfl) rfl
theorem q648 : (Jvm.Cond.laysFinal "FranchiseLedger$Books" "FranchiseLedger$Books" "outlets" "Ljava/util/List;") ∈ lw_all := lw_g (lw_at lw_m3 40 rfl) rfl
theorem q649 : (Jvm.Cond.soleField "FranchiseLedger$Books" "outlets") ∈ lw_all := lw_g (lw_at lw_m3 41 rfl) rfl
theorem q650 : (Jvm.Cond.laysFinal "FranchiseLedger$Books" "FranchiseLedger$Books" "grid" "LFranchiseLedger$Grid;") ∈ lw_all := lw_g (lw_at lw_m3 42 rfl) rfl
theorem q651 : (Jvm.Cond.soleField "FranchiseLedger$Books" "grid") ∈ lw_all := lw_g (lw_at lw_m3 43 rfl) rfl
theorem q652 : (Jvm.Cond.laysFinal "FranchiseLedger$Books" "FranchiseLedger$Books" "delivered" "[[J") ∈ lw_all := lw_g (lw_at lw_m3 44 rfl) rfl
theorem q653 : (Jvm.Cond.soleField "FranchiseLedger$Books" "delivered") ∈ lw_all := lw_g (lw_at lw_m3 45 rfl) rfl
theorem q654 : (Jvm.Cond.laysFinal "FranchiseLedger$Books" "FranchiseLedger$Books" "spent" "[J") ∈ lw_all := lw_g (lw_at lw_m3 46 rfl) rfl
theorem q655 : (Jvm.Cond.soleField "FranchiseLedger$Books" "spent") ∈ lw_all := lw_g (lw_at lw_m3 47 rfl) rfl
theorem q656 : (Jvm.Cond.lays "FranchiseLedger$Books" "FranchiseLedger$Books" "month" "I") ∈ lw_all := lw_g (lw_at lw_m3 48 rfl) rfl
theorem q657 : (Jvm.Cond.soleField "FranchiseLedger$Books" "month") ∈ lw_all := lw_g (lw_at lw_m3 49 rfl) rfl
theorem q658 : (Jvm.Cond.laysFinal "FranchiseLedger$Books" "FranchiseLedger$Books" "this$0" "LFranchiseLedger;") ∈ lw_all := lw_g (lw_at lw_m3 50 rfl) rfl
theorem q659 : (Jvm.Cond.soleField "FranchiseLedger$Books" "this$0") ∈ lw_all := lw_g (lw_at lw_m3 51 rfl) rfl
theorem q660 : (Jvm.Cond.superclass "FranchiseLedger$Books" "java/lang/Object") ∈ lw_all := lw_g (lw_at lw_m3 52 rfl) rfl
theorem q687 : (Jvm.Cond.fieldLinkNest "FranchiseLedger$Books" (95 : Nat) "FranchiseLedger" "rules" "LFranchiseLedger$Rules;" "FranchiseLedger") ∈ lw_tbl := lw_at lw_m3 79 rfl
theorem q832 : (Jvm.Cond.instanceMethod ({ cls := "FranchiseLedger$Books", name := "fund", desc := "()J" } : Jvm.MethodName)) ∈ lw_all := lw_g (lw_at lw_m3 224 rfl) rfl
theorem q833 : (Jvm.Cond.selects "FranchiseLedger$Books" ({ cls := "FranchiseLedger$Books", name := "fund", desc := "()J" } : Jvm.MethodName) ({ cls := "FranchiseLedger$Books", name := "fund", desc := "()J" } : Jvm.MethodName)) ∈ lw_all := lw_g (lw_at lw_m3 225 rfl) rfl
theorem q834 : (Jvm.Cond.code ({ cls := "FranchiseLedger$Books", name := "fund", desc := "()J" } : Jvm.MethodName) prog_3_method_12_code (1 : Nat) (Option.some Jvm.ClassFile.FieldType.long)) ∈ lw_all := lw_g (lw_at lw_m3 226 rfl) rfl
theorem q835 : (Jvm.Cond.methodLink "FranchiseLedger$Books" (206 : Nat) ({ cls := "FranchiseLedger$Books", name := "contributions", desc := "()J" } : Jvm.MethodName)) ∈ lw_all := lw_g (lw_at lw_m3 227 rfl) rfl
theorem q836 : (Jvm.Cond.instanceMethod ({ cls := "FranchiseLedger$Books", name := "contributions", desc := "()J" } : Jvm.MethodName)) ∈ lw_all := lw_g (lw_at lw_m3 228 rfl) rfl
theorem q837 : (Jvm.Cond.selects "FranchiseLedger$Books" ({ cls := "FranchiseLedger$Books", name := "contributions", desc := "()J" } : Jvm.MethodName) ({ cls := "FranchiseLedger$Books", name := "contributions", desc := "()J" } : Jvm.MethodName)) ∈ lw_all := lw_g (lw_at lw_m3 229 rfl) rfl
theorem q838 : (Jvm.Cond.code ({ cls := "FranchiseLedger$Books", name := "contributions", desc := "()J" } : Jvm.MethodName) prog_3_method_11_code (4 : Nat) (Option.some Jvm.ClassFile.FieldType.long)) ∈ lw_all := lw_g (lw_at lw_m3 230 rfl) rfl
theorem q839 : (Jvm.Cond.interfaceEntry "FranchiseLedger$Books" (46 : Nat)) ∈ lw_tbl := lw_at lw_m3 231 rfl
theorem q840 : (Jvm.Cond.methodLink "FranchiseLedger$Books" (46 : Nat) ({ cls := "java/util/List", name := "size", desc := "()I" } : Jvm.MethodName)) ∈ lw_all := lw_g (lw_at lw_m3 232 rfl) rfl
theorem q841 : (Jvm.Cond.interfaceEntry "FranchiseLedger$Books" (52 : Nat)) ∈ lw_tbl := lw_at lw_m3 233 rfl
theorem q842 : (Jvm.Cond.methodLink "FranchiseLedger$Books" (52 : Nat) ({ cls := "java/util/List", name := "get", desc := "(I)Ljava/lang/Object;" } : Jvm.MethodName)) ∈ lw_all := lw_g (lw_at lw_m3 234 rfl) rfl
theorem q843 : (Jvm.Cond.classLink "FranchiseLedger$Books" (56 : Nat) "FranchiseLedger$Franchisee") ∈ lw_all := lw_g (lw_at lw_m3 235 rfl) rfl
theorem q852 : (Jvm.Cond.instanceMethod ({ cls := "FranchiseLedger$Books", name := "copy", desc := "()LFranchiseLedger$Books;" } : Jvm.MethodName)) ∈ lw_all := lw_g (lw_at lw_m4 4 rfl) rfl
theorem q853 : (Jvm.Cond.selects "FranchiseLedger$Books" ({ cls := "FranchiseLedger$Books", name := "copy", desc := "()LFranchiseLedger$Books;" } : Jvm.MethodName) ({ cls := "FranchiseLedger$Books", name := "copy", desc := "()LFranchiseLedger$Books;" } : Jvm.MethodName)) ∈ lw_all := lw_g (lw_at lw_m4 5 rfl) rfl
theorem q854 : (Jvm.Cond.code ({ cls := "FranchiseLedger$Books", name := "copy", desc := "()LFranchiseLedger$Books;" } : Jvm.MethodName) prog_3_method_2_code (3 : Nat) (Option.some (Jvm.ClassFile.FieldType.object "FranchiseLedger$Books"))) ∈ lw_all := lw_g (lw_at lw_m4 6 rfl) rfl
theorem q855 : (Jvm.Cond.classLink "FranchiseLedger$Books" (4 : Nat) "FranchiseLedger$Books") ∈ lw_all := lw_g (lw_at lw_m4 7 rfl) rfl
theorem q856 : (Jvm.Cond.methodLink "FranchiseLedger$Books" (43 : Nat) ({ cls := "FranchiseLedger$Books", name := "<init>", desc := "(LFranchiseLedger;)V" } : Jvm.MethodName)) ∈ lw_all := lw_g (lw_at lw_m4 8 rfl) rfl
theorem q857 : (Jvm.Cond.methodLink "FranchiseLedger$Books" (62 : Nat) ({ cls := "FranchiseLedger$Franchisee", name := "copy", desc := "(I)LFranchiseLedger$Franchisee;" } : Jvm.MethodName)) ∈ lw_all := lw_g (lw_at lw_m4 9 rfl) rfl
theorem q874 : (Jvm.Cond.fieldLinkNest "FranchiseLedger$Books" (165 : Nat) "FranchiseLedger$Transfer" "state" "I" "FranchiseLedger") ∈ lw_tbl := lw_at lw_m4 26 rfl
theorem q877 : (Jvm.Cond.fieldLinkNest "FranchiseLedger$Books" (170 : Nat) "FranchiseLedger$Transfer" "month" "I" "FranchiseLedger") ∈ lw_tbl := lw_at lw_m4 29 rfl
theorem q880 : (Jvm.Cond.fieldLinkNest "FranchiseLedger$Books" (174 : Nat) "FranchiseLedger$Transfer" "worth" "I" "FranchiseLedger") ∈ lw_tbl := lw_at lw_m4 32 rfl
theorem q904 : (Jvm.Cond.fieldLinkNest "FranchiseLedger$Books" (161 : Nat) "FranchiseLedger$Franchisee" "transfer" "LFranchiseLedger$Transfer;" "FranchiseLedger") ∈ lw_tbl := lw_at lw_m4 56 rfl
theorem q907 : (Jvm.Cond.fieldLinkNest "FranchiseLedger$Books" (186 : Nat) "FranchiseLedger$Franchisee" "invoices" "[[J" "FranchiseLedger") ∈ lw_tbl := lw_at lw_m4 59 rfl
theorem q910 : (Jvm.Cond.fieldLinkNest "FranchiseLedger$Books" (184 : Nat) "FranchiseLedger$Franchisee" "sales" "[J" "FranchiseLedger") ∈ lw_tbl := lw_at lw_m4 62 rfl
theorem q913 : (Jvm.Cond.fieldLinkNest "FranchiseLedger$Books" (104 : Nat) "FranchiseLedger$Franchisee" "plan" "I" "FranchiseLedger") ∈ lw_tbl := lw_at lw_m4 65 rfl
theorem q916 : (Jvm.Cond.fieldLinkNest "FranchiseLedger$Books" (177 : Nat) "FranchiseLedger$Franchisee" "worth" "I" "FranchiseLedger") ∈ lw_tbl := lw_at lw_m4 68 rfl
theorem q919 : (Jvm.Cond.fieldLinkNest "FranchiseLedger$Books" (218 : Nat) "FranchiseLedger$Franchisee" "status" "I" "FranchiseLedger") ∈ lw_tbl := lw_at lw_m4 71 rfl
theorem q922 : (Jvm.Cond.fieldLinkNest "FranchiseLedger$Books" (178 : Nat) "FranchiseLedger$Franchisee" "generation" "I" "FranchiseLedger") ∈ lw_tbl := lw_at lw_m4 74 rfl
theorem q925 : (Jvm.Cond.fieldLinkNest "FranchiseLedger$Books" (155 : Nat) "FranchiseLedger$Franchisee" "overdue" "I" "FranchiseLedger") ∈ lw_tbl := lw_at lw_m4 77 rfl
theorem q928 : (Jvm.Cond.fieldLinkNest "FranchiseLedger$Books" (147 : Nat) "FranchiseLedger$Franchisee" "balance" "J" "FranchiseLedger") ∈ lw_tbl := lw_at lw_m4 80 rfl
theorem q931 : (Jvm.Cond.fieldLinkNest "FranchiseLedger$Books" (158 : Nat) "FranchiseLedger$Franchisee" "contributions" "J" "FranchiseLedger") ∈ lw_tbl := lw_at lw_m4 83 rfl
theorem q963 : (Jvm.Cond.interfaceEntry "FranchiseLedger$Books" (66 : Nat)) ∈ lw_tbl := lw_at lw_m4 115 rfl
theorem q964 : (Jvm.Cond.methodLink "FranchiseLedger$Books" (66 : Nat) ({ cls := "java/util/List", name := "add", desc := "(Ljava/lang/Object;)Z" } : Jvm.MethodName)) ∈ lw_all := lw_g (lw_at lw_m4 116 rfl) rfl
theorem q995 : (Jvm.Cond.selects "FranchiseLedger$Books" ({ cls := "java/lang/Object", name := "getClass", desc := "()Ljava/lang/Class;" } : Jvm.MethodName) ({ cls := "java/lang/Object", name := "getClass", desc := "()Ljava/lang/Class;" } : Jvm.MethodName)) ∈ lw_all := lw_g (lw_at lw_m4 147 rfl) rfl
theorem q1055 : (Jvm.Cond.classLink "FranchiseLedger$Books" (70 : Nat) "FranchiseLedger$Outlet") ∈ lw_all := lw_g (lw_at lw_m4 207 rfl) rfl
theorem q1057 : (Jvm.Cond.methodLink "FranchiseLedger$Books" (82 : Nat) ({ cls := "FranchiseLedger$Outlet", name := "<init>", desc := "(IIJ)V" } : Jvm.MethodName)) ∈ lw_all := lw_g (lw_at lw_m4 209 rfl) rfl
theorem q1062 : (Jvm.Cond.fieldLinkNest "FranchiseLedger$Books" (72 : Nat) "FranchiseLedger$Outlet" "cell" "I" "FranchiseLedger") ∈ lw_tbl := lw_at lw_m4 214 rfl
theorem q1065 : (Jvm.Cond.fieldLinkNest "FranchiseLedger$Books" (75 : Nat) "FranchiseLedger$Outlet" "owner" "I" "FranchiseLedger") ∈ lw_tbl := lw_at lw_m4 217 rfl
theorem q1068 : (Jvm.Cond.fieldLinkNest "FranchiseLedger$Books" (78 : Nat) "FranchiseLedger$Outlet" "sales" "J" "FranchiseLedger") ∈ lw_tbl := lw_at lw_m4 220 rfl
theorem q1077 : (Jvm.Cond.methodLink "FranchiseLedger$Books" (85 : Nat) ({ cls := "FranchiseLedger$Grid", name := "like", desc := "(LFranchiseLedger$Grid;)V" } : Jvm.MethodName)) ∈ lw_all := lw_g (lw_at lw_m4 229 rfl) rfl
theorem q1082 : (Jvm.Cond.methodLink "FranchiseLedger$Books" (89 : Nat) ({ cls := "java/lang/System", name := "arraycopy", desc := "(Ljava/lang/Object;ILjava/lang/Object;II)V" } : Jvm.MethodName)) ∈ lw_all := lw_g (lw_at lw_m4 234 rfl) rfl
theorem q1632 : (Jvm.Cond.fieldLinkNest "FranchiseLedger$Books" (144 : Nat) "FranchiseLedger$Plan" "advertising" "LFranchiseLedger$Rate;" "FranchiseLedger") ∈ lw_tbl := lw_at lw_m7 64 rfl
theorem q1710 : (Jvm.Cond.instanceMethod ({ cls := "FranchiseLedger$Books", name := "hasOutlet", desc := "(I)Z" } : Jvm.MethodName)) ∈ lw_all := lw_g (lw_at lw_m7 142 rfl) rfl
theorem q1711 : (Jvm.Cond.selects "FranchiseLedger$Books" ({ cls := "FranchiseLedger$Books", name := "hasOutlet", desc := "(I)Z" } : Jvm.MethodName) ({ cls := "FranchiseLedger$Books", name := "hasOutlet", desc := "(I)Z" } : Jvm.MethodName)) ∈ lw_all := lw_g (lw_at lw_m7 143 rfl) rfl
theorem q1712 : (Jvm.Cond.code ({ cls := "FranchiseLedger$Books", name := "hasOutlet", desc := "(I)Z" } : Jvm.MethodName) prog_3_method_13_code (3 : Nat) (Option.some Jvm.ClassFile.FieldType.boolean)) ∈ lw_all := lw_g (lw_at lw_m7 144 rfl) rfl
theorem q1713 : (Jvm.Cond.methodLink "FranchiseLedger$Books" (209 : Nat) ({ cls := "FranchiseLedger$Outlet", name := "isOpen", desc := "()Z" } : Jvm.MethodName)) ∈ lw_all := lw_g (lw_at lw_m7 145 rfl) rfl
theorem q1922 : (Jvm.Cond.instanceMethod ({ cls := "FranchiseLedger$Books", name := "close", desc := "()V" } : Jvm.MethodName)) ∈ lw_all := lw_g (lw_at lw_m8 114 rfl) rfl
theorem q1923 : (Jvm.Cond.selects "FranchiseLedger$Books" ({ cls := "FranchiseLedger$Books", name := "close", desc := "()V" } : Jvm.MethodName) ({ cls := "FranchiseLedger$Books", name := "close", desc := "()V" } : Jvm.MethodName)) ∈ lw_all := lw_g (lw_at lw_m8 115 rfl) rfl
theorem q1924 : (Jvm.Cond.code ({ cls := "FranchiseLedger$Books", name := "close", desc := "()V" } : Jvm.MethodName) prog_3_method_10_code (5 : Nat) (Option.none : Option Jvm.ClassFile.FieldType)) ∈ lw_all := lw_g (lw_at lw_m8 116 rfl) rfl
theorem q1925 : (Jvm.Cond.methodLink "FranchiseLedger$Books" (189 : Nat) ({ cls := "FranchiseLedger$Books", name := "statement", desc := "(II)[J" } : Jvm.MethodName)) ∈ lw_all := lw_g (lw_at lw_m8 117 rfl) rfl
theorem q1926 : (Jvm.Cond.instanceMethod ({ cls := "FranchiseLedger$Books", name := "statement", desc := "(II)[J" } : Jvm.MethodName)) ∈ lw_all := lw_g (lw_at lw_m8 118 rfl) rfl
theorem q1927 : (Jvm.Cond.selects "FranchiseLedger$Books" ({ cls := "FranchiseLedger$Books", name := "statement", desc := "(II)[J" } : Jvm.MethodName) ({ cls := "FranchiseLedger$Books", name := "statement", desc := "(II)[J" } : Jvm.MethodName)) ∈ lw_all := lw_g (lw_at lw_m8 119 rfl) rfl
theorem q1928 : (Jvm.Cond.code ({ cls := "FranchiseLedger$Books", name := "statement", desc := "(II)[J" } : Jvm.MethodName) prog_3_method_6_code (8 : Nat) (Option.some (Jvm.ClassFile.FieldType.array Jvm.ClassFile.FieldType.long))) ∈ lw_all := lw_g (lw_at lw_m8 120 rfl) rfl
theorem q1929 : (Jvm.Cond.methodLink "FranchiseLedger$Books" (130 : Nat) ({ cls := "FranchiseLedger$Franchisee", name := "isActive", desc := "()Z" } : Jvm.MethodName)) ∈ lw_all := lw_g (lw_at lw_m8 121 rfl) rfl
theorem q1930 : (Jvm.Cond.methodLink "FranchiseLedger$Books" (134 : Nat) ({ cls := "FranchiseLedger$Books", name := "sales", desc := "(II)J" } : Jvm.MethodName)) ∈ lw_all := lw_g (lw_at lw_m8 122 rfl) rfl
theorem q1931 : (Jvm.Cond.instanceMethod ({ cls := "FranchiseLedger$Books", name := "sales", desc := "(II)J" } : Jvm.MethodName)) ∈ lw_all := lw_g (lw_at lw_m8 123 rfl) rfl
theorem q1932 : (Jvm.Cond.selects "FranchiseLedger$Books" ({ cls := "FranchiseLedger$Books", name := "sales", desc := "(II)J" } : Jvm.MethodName) ({ cls := "FranchiseLedger$Books", name := "sales", desc := "(II)J" } : Jvm.MethodName)) ∈ lw_all := lw_g (lw_at lw_m8 124 rfl) rfl
theorem q1933 : (Jvm.Cond.code ({ cls := "FranchiseLedger$Books", name := "sales", desc := "(II)J" } : Jvm.MethodName) prog_3_method_4_code (6 : Nat) (Option.some Jvm.ClassFile.FieldType.long)) ∈ lw_all := lw_g (lw_at lw_m8 125 rfl) rfl
theorem q1934 : (Jvm.Cond.constantLong "FranchiseLedger$Books" (109 : Nat) (100 : Int64)) ∈ lw_all := lw_g (lw_at lw_m8 126 rfl) rfl
theorem q1935 : (Jvm.Cond.methodLink "FranchiseLedger$Books" (137 : Nat) ({ cls := "FranchiseLedger$Books", name := "planOf", desc := "(I)LFranchiseLedger$Plan;" } : Jvm.MethodName)) ∈ lw_all := lw_g (lw_at lw_m8 127 rfl) rfl
theorem q1936 : (Jvm.Cond.instanceMethod ({ cls := "FranchiseLedger$Books", name := "planOf", desc := "(I)LFranchiseLedger$Plan;" } : Jvm.MethodName)) ∈ lw_all := lw_g (lw_at lw_m8 128 rfl) rfl
theorem q1937 : (Jvm.Cond.selects "FranchiseLedger$Books" ({ cls := "FranchiseLedger$Books", name := "planOf", desc := "(I)LFranchiseLedger$Plan;" } : Jvm.MethodName) ({ cls := "FranchiseLedger$Books", name := "planOf", desc := "(I)LFranchiseLedger$Plan;" } : Jvm.MethodName)) ∈ lw_all := lw_g (lw_at lw_m8 129 rfl) rfl
theorem q1938 : (Jvm.Cond.code ({ cls := "FranchiseLedger$Books", name := "planOf", desc := "(I)LFranchiseLedger$Plan;" } : Jvm.MethodName) prog_3_method_3_code (2 : Nat) (Option.some (Jvm.ClassFile.FieldType.object "FranchiseLedger$Plan"))) ∈ lw_all := lw_g (lw_at lw_m8 130 rfl) rfl
theorem q1939 : (Jvm.Cond.classLink "FranchiseLedger$Books" (107 : Nat) "FranchiseLedger$Plan") ∈ lw_all := lw_g (lw_at lw_m8 131 rfl) rfl
theorem q1940 : (Jvm.Cond.methodLink "FranchiseLedger$Books" (141 : Nat) ({ cls := "FranchiseLedger$Plan", name := "royalty", desc := "(J)J" } : Jvm.MethodName)) ∈ lw_all := lw_g (lw_at lw_m8 132 rfl) rfl
theorem q1987 : (Jvm.Cond.methodLink "FranchiseLedger$Books" (153 : Nat) ({ cls := "FranchiseLedger$Books", name := "credit", desc := "(II)J" } : Jvm.MethodName)) ∈ lw_all := lw_g (lw_at lw_m8 179 rfl) rfl
theorem q1988 : (Jvm.Cond.instanceMethod ({ cls := "FranchiseLedger$Books", name := "credit", desc := "(II)J" } : Jvm.MethodName)) ∈ lw_all := lw_g (lw_at lw_m8 180 rfl) rfl
theorem q1989 : (Jvm.Cond.selects "FranchiseLedger$Books" ({ cls := "FranchiseLedger$Books", name := "credit", desc := "(II)J" } : Jvm.MethodName) ({ cls := "FranchiseLedger$Books", name := "credit", desc := "(II)J" } : Jvm.MethodName)) ∈ lw_all := lw_g (lw_at lw_m8 181 rfl) rfl
theorem q1990 : (Jvm.Cond.code ({ cls := "FranchiseLedger$Books", name := "credit", desc := "(II)J" } : Jvm.MethodName) prog_3_method_5_code (3 : Nat) (Option.some Jvm.ClassFile.FieldType.long)) ∈ lw_all := lw_g (lw_at lw_m8 182 rfl) rfl
theorem q1991 : (Jvm.Cond.methodLink "FranchiseLedger$Books" (124 : Nat) ({ cls := "java/lang/Math", name := "min", desc := "(JJ)J" } : Jvm.MethodName)) ∈ lw_all := lw_g (lw_at lw_m8 183 rfl) rfl
theorem q1992 : (Jvm.Cond.methodLink "FranchiseLedger$Books" (193 : Nat) ({ cls := "FranchiseLedger$Books", name := "book", desc := "(LFranchiseLedger$Franchisee;[J)V" } : Jvm.MethodName)) ∈ lw_all := lw_g (lw_at lw_m8 184 rfl) rfl
theorem q1993 : (Jvm.Cond.privateMethod ({ cls := "FranchiseLedger$Books", name := "book", desc := "(LFranchiseLedger$Franchisee;[J)V" } : Jvm.MethodName)) ∈ lw_tbl := lw_at lw_m8 185 rfl
theorem q1994 : (Jvm.Cond.instanceMethod ({ cls := "FranchiseLedger$Books", name := "book", desc := "(LFranchiseLedger$Franchisee;[J)V" } : Jvm.MethodName)) ∈ lw_all := lw_g (lw_at lw_m8 186 rfl) rfl
theorem q1995 : (Jvm.Cond.code ({ cls := "FranchiseLedger$Books", name := "book", desc := "(LFranchiseLedger$Franchisee;[J)V" } : Jvm.MethodName) prog_3_method_7_code (3 : Nat) (Option.none : Option Jvm.ClassFile.FieldType)) ∈ lw_all := lw_g (lw_at lw_m8 187 rfl) rfl
theorem q1996 : (Jvm.Cond.methodLink "FranchiseLedger$Books" (200 : Nat) ({ cls := "FranchiseLedger$Books", name := "transfer", desc := "(LFranchiseLedger$Franchisee;)V" } : Jvm.MethodName)) ∈ lw_all := lw_g (lw_at lw_m8 188 rfl) rfl
theorem q1997 : (Jvm.Cond.privateMethod ({ cls := "FranchiseLedger$Books", name := "transfer", desc := "(LFranchiseLedger$Franchisee;)V" } : Jvm.MethodName)) ∈ lw_tbl := lw_at lw_m8 189 rfl
theorem q1998 : (Jvm.Cond.instanceMethod ({ cls := "FranchiseLedger$Books", name := "transfer", desc := "(LFranchiseLedger$Franchisee;)V" } : Jvm.MethodName)) ∈ lw_all := lw_g (lw_at lw_m8 190 rfl) rfl
theorem q1999 : (Jvm.Cond.code ({ cls := "FranchiseLedger$Books", name := "transfer", desc := "(LFranchiseLedger$Franchisee;)V" } : Jvm.MethodName) prog_3_method_8_code (3 : Nat) (Option.none : Option Jvm.ClassFile.FieldType)) ∈ lw_all := lw_g (lw_at lw_m8 191 rfl) rfl
theorem q2000 : (Jvm.Cond.methodLink "FranchiseLedger$Books" (203 : Nat) ({ cls := "FranchiseLedger$Books", name := "endMonth", desc := "()V" } : Jvm.MethodName)) ∈ lw_all := lw_g (lw_at lw_m8 192 rfl) rfl
theorem q2001 : (Jvm.Cond.privateMethod ({ cls := "FranchiseLedger$Books", name := "endMonth", desc := "()V" } : Jvm.MethodName)) ∈ lw_tbl := lw_at lw_m8 193 rfl
theorem q2002 : (Jvm.Cond.instanceMethod ({ cls := "FranchiseLedger$Books", name := "endMonth", desc := "()V" } : Jvm.MethodName)) ∈ lw_all := lw_g (lw_at lw_m8 194 rfl) rfl
theorem q2003 : (Jvm.Cond.code ({ cls := "FranchiseLedger$Books", name := "endMonth", desc := "()V" } : Jvm.MethodName) prog_3_method_9_code (3 : Nat) (Option.none : Option Jvm.ClassFile.FieldType)) ∈ lw_all := lw_g (lw_at lw_m8 195 rfl) rfl
theorem q2141 : (Jvm.Cond.instanceMethod ({ cls := "FranchiseLedger$Books", name := "nearest", desc := "(II)I" } : Jvm.MethodName)) ∈ lw_all := lw_g (lw_at lw_m9 93 rfl) rfl
theorem q2142 : (Jvm.Cond.selects "FranchiseLedger$Books" ({ cls := "FranchiseLedger$Books", name := "nearest", desc := "(II)I" } : Jvm.MethodName) ({ cls := "FranchiseLedger$Books", name := "nearest", desc := "(II)I" } : Jvm.MethodName)) ∈ lw_all := lw_g (lw_at lw_m9 94 rfl) rfl
theorem q2143 : (Jvm.Cond.code ({ cls := "FranchiseLedger$Books", name := "nearest", desc := "(II)I" } : Jvm.MethodName) prog_3_method_14_code (6 : Nat) (Option.some Jvm.ClassFile.FieldType.int)) ∈ lw_all := lw_g (lw_at lw_m9 95 rfl) rfl
theorem q2144 : (Jvm.Cond.methodLinkNest "FranchiseLedger$Books" (212 : Nat) ({ cls := "FranchiseLedger", name := "distance", desc := "(II)I" } : Jvm.MethodName) "FranchiseLedger") ∈ lw_tbl := lw_at lw_m9 96 rfl
theorem q2145 : (Jvm.Cond.methodLink "FranchiseLedger$Books" (216 : Nat) ({ cls := "java/lang/Math", name := "min", desc := "(II)I" } : Jvm.MethodName)) ∈ lw_all := lw_g (lw_at lw_m9 97 rfl) rfl
theorem q2305 : (Jvm.Cond.instanceMethod ({ cls := "FranchiseLedger$Books", name := "terminate", desc := "(I)V" } : Jvm.MethodName)) ∈ lw_all := lw_g (lw_at lw_m10 17 rfl) rfl
theorem q2306 : (Jvm.Cond.selects "FranchiseLedger$Books" ({ cls := "FranchiseLedger$Books", name := "terminate", desc := "(I)V" } : Jvm.MethodName) ({ cls := "FranchiseLedger$Books", name := "terminate", desc := "(I)V" } : Jvm.MethodName)) ∈ lw_all := lw_g (lw_at lw_m10 18 rfl) rfl
theorem q2307 : (Jvm.Cond.code ({ cls := "FranchiseLedger$Books", name := "terminate", desc := "(I)V" } : Jvm.MethodName) prog_3_method_15_code (4 : Nat) (Option.none : Option Jvm.ClassFile.FieldType)) ∈ lw_all := lw_g (lw_at lw_m10 19 rfl) rfl
theorem q2308 : (Jvm.Cond.methodLink "FranchiseLedger$Books" (221 : Nat) ({ cls := "FranchiseLedger$Transfer", name := "isOpen", desc := "()Z" } : Jvm.MethodName)) ∈ lw_all := lw_g (lw_at lw_m10 20 rfl) rfl
theorem q2357 : (Jvm.Cond.instanceMethod ({ cls := "FranchiseLedger$Books", name := "share", desc := "(I)J" } : Jvm.MethodName)) ∈ lw_all := lw_g (lw_at lw_m10 69 rfl) rfl
theorem q2358 : (Jvm.Cond.selects "FranchiseLedger$Books" ({ cls := "FranchiseLedger$Books", name := "share", desc := "(I)J" } : Jvm.MethodName) ({ cls := "FranchiseLedger$Books", name := "share", desc := "(I)J" } : Jvm.MethodName)) ∈ lw_all := lw_g (lw_at lw_m10 70 rfl) rfl
theorem q2359 : (Jvm.Cond.code ({ cls := "FranchiseLedger$Books", name := "share", desc := "(I)J" } : Jvm.MethodName) prog_3_method_17_code (12 : Nat) (Option.some Jvm.ClassFile.FieldType.long)) ∈ lw_all := lw_g (lw_at lw_m10 71 rfl) rfl
theorem q2360 : (Jvm.Cond.methodLink "FranchiseLedger$Books" (226 : Nat) ({ cls := "FranchiseLedger$Books", name := "shareOf", desc := "(IJZ)J" } : Jvm.MethodName)) ∈ lw_all := lw_g (lw_at lw_m10 72 rfl) rfl
theorem q2361 : (Jvm.Cond.privateMethod ({ cls := "FranchiseLedger$Books", name := "shareOf", desc := "(IJZ)J" } : Jvm.MethodName)) ∈ lw_tbl := lw_at lw_m10 73 rfl
theorem q2362 : (Jvm.Cond.instanceMethod ({ cls := "FranchiseLedger$Books", name := "shareOf", desc := "(IJZ)J" } : Jvm.MethodName)) ∈ lw_all := lw_g (lw_at lw_m10 74 rfl) rfl
theorem q2363 : (Jvm.Cond.code ({ cls := "FranchiseLedger$Books", name := "shareOf", desc := "(IJZ)J" } : Jvm.MethodName) prog_3_method_16_code (7 : Nat) (Option.some Jvm.ClassFile.FieldType.long)) ∈ lw_all := lw_g (lw_at lw_m10 75 rfl) rfl
theorem q3255 : (Jvm.Cond.castable "FranchiseLedger$Books" "java/lang/Object") ∈ lw_tbl := lw_at lw_m14 7 rfl
theorem in_X4 : ∀ w ∈ wsX40, w ∈ lw_all := lw_in wsX40 [646, 648, 650, 652, 654, 656, 658] (by decide +kernel) (by decide +kernel)
/-! FranchiseLedger$Reader -/
set_option maxRecDepth 100000
def RX7 : String := "FranchiseLedger$Reader"
def TX7 : u_T := fun k => match k with
  | 0 => ("FranchiseLedger$Reader", "length", "I", true)
  | 1 => ("FranchiseLedger$Reader", "made", "LFranchiseLedger$Rules;", true)
  | 2 => ("FranchiseLedger$Reader", "fresh", "LFranchiseLedger$Books;", true)
  | 3 => ("FranchiseLedger$Reader", "next", "I", false)
  | 4 => ("FranchiseLedger$Reader", "start", "I", false)
  | 5 => ("FranchiseLedger$Reader", "type", "I", false)
  | 6 => ("FranchiseLedger$Reader", "number", "I", false)
  | 7 => ("FranchiseLedger$Reader", "word", "Ljava/lang/String;", false)
  | _ => ("FranchiseLedger$Reader", "this$0", "LFranchiseLedger;", true)
def tyX7 : Nat → FieldType := fun k => match k with
  | 0 => .int
  | 1 => .object "FranchiseLedger$Rules"
  | 2 => .object "FranchiseLedger$Books"
  | 3 => .int
  | 4 => .int
  | 5 => .int
  | 6 => .int
  | 7 => .object "java/lang/String"
  | _ => .object "FranchiseLedger"
abbrev wsX70 : List Cond := u_ws RX7 TX7 9
theorem nmX7 : ∀ a, a < 9 → ∀ b, b < 9 → a ≠ b → (TX7 a).2.1 ≠ (TX7 b).2.1 := by decide +kernel
theorem tyX7_ok : ∀ k, k < 9 → parseFieldDescriptor (TX7 k).2.2.1 = some (tyX7 k) := by decide +kernel
abbrev cX7_init : ByteArray := prog_11_method_1_code
def yX7_init : MethodName := ⟨RX7, "<init>", "(LFranchiseLedger;)V"⟩
def dkwX7_init_2 : List UInt8 := [181, 0, 41, 43, 3, 181, 0, 37, 43, 3, 181, 0, 44, 43, 2, 181, 0, 47, 42, 182, 0, 50, 177]
abbrev dktX7_init_2 : List UInt8 := dkwX7_init_2 ++ []
def dkwX7_init_1 : List UInt8 := [89, 42, 180, 0, 3, 183, 0, 24, 181, 0, 27, 42, 18, 31, 181, 0, 33, 42, 43, 180, 0, 37]
abbrev dktX7_init_1 : List UInt8 := dkwX7_init_1 ++ dktX7_init_2
def dkwX7_init_0 : List UInt8 := [42, 43, 181, 0, 3, 42, 183, 0, 9, 42, 187, 0, 15, 89, 183, 0, 17, 181, 0, 18, 42, 187, 0, 22]
abbrev dktX7_init_0 : List UInt8 := dkwX7_init_0 ++ dktX7_init_1
theorem dksX7_init_0 : cX7_init.data.toList.drop 0 = dktX7_init_0 := by decide +kernel
theorem dksX7_init_1 : cX7_init.data.toList.drop 24 = dktX7_init_1 := dk_seg dksX7_init_0 24 rfl rfl
theorem dksX7_init_2 : cX7_init.data.toList.drop 46 = dktX7_init_2 := dk_seg dksX7_init_1 22 rfl rfl
theorem dX7_init_0 : decode cX7_init 0 = .ok (.aload_n 0, 1) := dk_42 (dk_at dksX7_init_0 0 rfl rfl)
theorem dX7_init_1 : decode cX7_init 1 = .ok (.aload_n 1, 1) := dk_43 (dk_at dksX7_init_0 1 rfl rfl)
theorem dX7_init_2 : decode cX7_init 2 = .ok (.putfield 3, 3) := dk_181 0 3 (dk_at dksX7_init_0 2 rfl rfl)
theorem dX7_init_5 : decode cX7_init 5 = .ok (.aload_n 0, 1) := dk_42 (dk_at dksX7_init_0 5 rfl rfl)
theorem dX7_init_6 : decode cX7_init 6 = .ok (.invokespecial 9, 3) := dk_183 0 9 (dk_at dksX7_init_0 6 rfl rfl)
theorem dX7_init_9 : decode cX7_init 9 = .ok (.aload_n 0, 1) := dk_42 (dk_at dksX7_init_0 9 rfl rfl)
theorem dX7_init_10 : decode cX7_init 10 = .ok (.new 15, 3) := dk_187 0 15 (dk_at dksX7_init_0 10 rfl rfl)
theorem dX7_init_13 : decode cX7_init 13 = .ok (.dup, 1) := dk_89 (dk_at dksX7_init_0 13 rfl rfl)
theorem dX7_init_14 : decode cX7_init 14 = .ok (.invokespecial 17, 3) := dk_183 0 17 (dk_at dksX7_init_0 14 rfl rfl)
theorem dX7_init_17 : decode cX7_init 17 = .ok (.putfield 18, 3) := dk_181 0 18 (dk_at dksX7_init_0 17 rfl rfl)
theorem dX7_init_20 : decode cX7_init 20 = .ok (.aload_n 0, 1) := dk_42 (dk_at dksX7_init_0 20 rfl rfl)
theorem dX7_init_21 : decode cX7_init 21 = .ok (.new 22, 3) := dk_187 0 22 (dk_at dksX7_init_0 21 rfl rfl)
theorem dX7_init_24 : decode cX7_init 24 = .ok (.dup, 1) := dk_89 (dk_at dksX7_init_1 0 rfl rfl)
theorem dX7_init_25 : decode cX7_init 25 = .ok (.aload_n 0, 1) := dk_42 (dk_at dksX7_init_1 1 rfl rfl)
theorem dX7_init_26 : decode cX7_init 26 = .ok (.getfield 3, 3) := dk_180 0 3 (dk_at dksX7_init_1 2 rfl rfl)
theorem dX7_init_29 : decode cX7_init 29 = .ok (.invokespecial 24, 3) := dk_183 0 24 (dk_at dksX7_init_1 5 rfl rfl)
theorem dX7_init_32 : decode cX7_init 32 = .ok (.putfield 27, 3) := dk_181 0 27 (dk_at dksX7_init_1 8 rfl rfl)
theorem dX7_init_35 : decode cX7_init 35 = .ok (.aload_n 0, 1) := dk_42 (dk_at dksX7_init_1 11 rfl rfl)
theorem dX7_init_36 : decode cX7_init 36 = .ok (.ldc 31, 2) := dk_18 31 (dk_at dksX7_init_1 12 rfl rfl)
theorem dX7_init_38 : decode cX7_init 38 = .ok (.putfield 33, 3) := dk_181 0 33 (dk_at dksX7_init_1 14 rfl rfl)
theorem dX7_init_41 : decode cX7_init 41 = .ok (.aload_n 0, 1) := dk_42 (dk_at dksX7_init_1 17 rfl rfl)
theorem dX7_init_42 : decode cX7_init 42 = .ok (.aload_n 1, 1) := dk_43 (dk_at dksX7_init_1 18 rfl rfl)
theorem dX7_init_43 : decode cX7_init 43 = .ok (.getfield 37, 3) := dk_180 0 37 (dk_at dksX7_init_1 19 rfl rfl)
theorem dX7_init_46 : decode cX7_init 46 = .ok (.putfield 41, 3) := dk_181 0 41 (dk_at dksX7_init_2 0 rfl rfl)
theorem dX7_init_49 : decode cX7_init 49 = .ok (.aload_n 1, 1) := dk_43 (dk_at dksX7_init_2 3 rfl rfl)
theorem dX7_init_50 : decode cX7_init 50 = .ok (.iconst 0, 1) := dk_3 (dk_at dksX7_init_2 4 rfl rfl)
theorem dX7_init_51 : decode cX7_init 51 = .ok (.putfield 37, 3) := dk_181 0 37 (dk_at dksX7_init_2 5 rfl rfl)
theorem dX7_init_54 : decode cX7_init 54 = .ok (.aload_n 1, 1) := dk_43 (dk_at dksX7_init_2 8 rfl rfl)
theorem dX7_init_55 : decode cX7_init 55 = .ok (.iconst 0, 1) := dk_3 (dk_at dksX7_init_2 9 rfl rfl)
theorem dX7_init_56 : decode cX7_init 56 = .ok (.putfield 44, 3) := dk_181 0 44 (dk_at dksX7_init_2 10 rfl rfl)
theorem dX7_init_59 : decode cX7_init 59 = .ok (.aload_n 1, 1) := dk_43 (dk_at dksX7_init_2 13 rfl rfl)
theorem dX7_init_60 : decode cX7_init 60 = .ok (.iconst (-1), 1) := dk_2 (dk_at dksX7_init_2 14 rfl rfl)
theorem dX7_init_61 : decode cX7_init 61 = .ok (.putfield 47, 3) := dk_181 0 47 (dk_at dksX7_init_2 15 rfl rfl)
theorem dX7_init_64 : decode cX7_init 64 = .ok (.aload_n 0, 1) := dk_42 (dk_at dksX7_init_2 18 rfl rfl)
theorem dX7_init_65 : decode cX7_init 65 = .ok (.invokevirtual 50, 3) := dk_182 0 50 (dk_at dksX7_init_2 19 rfl rfl)
theorem dX7_init_68 : decode cX7_init 68 = .ok (.return_, 1) := dk_177 (dk_at dksX7_init_2 22 rfl rfl)
abbrev cX7_scan : ByteArray := prog_11_method_5_code
def yX7_scan : MethodName := ⟨RX7, "scan", "()V"⟩
def dkwX7_scan_5 : List UInt8 := [181, 0, 53, 177]
abbrev dktX7_scan_5 : List UInt8 := dkwX7_scan_5 ++ []
def dkwX7_scan_4 : List UInt8 := [182, 0, 60, 16, 59, 160, 0, 7, 6, 167, 0, 4, 7, 181, 0, 79, 42, 89, 180, 0, 53, 4, 96]
abbrev dktX7_scan_4 : List UInt8 := dkwX7_scan_4 ++ dktX7_scan_5
def dkwX7_scan_3 : List UInt8 := [182, 0, 86, 167, 0, 45, 42, 182, 0, 89, 153, 0, 10, 42, 182, 0, 92, 167, 0, 31, 42, 42]
abbrev dktX7_scan_3 : List UInt8 := dkwX7_scan_3 ++ dktX7_scan_4
def dkwX7_scan_2 : List UInt8 := [182, 0, 60, 2, 160, 0, 11, 42, 3, 181, 0, 79, 167, 0, 59, 42, 182, 0, 82, 153, 0, 10, 42]
abbrev dktX7_scan_2 : List UInt8 := dkwX7_scan_2 ++ dktX7_scan_3
def dkwX7_scan_1 : List UInt8 := [96, 181, 0, 53, 167, 255, 228, 42, 42, 180, 0, 53, 181, 0, 76, 42, 18, 31, 181, 0, 33, 42]
abbrev dktX7_scan_1 : List UInt8 := dkwX7_scan_1 ++ dktX7_scan_2
def dkwX7_scan_0 : List UInt8 := [42, 182, 0, 60, 16, 32, 159, 0, 12, 42, 182, 0, 60, 16, 10, 160, 0, 16, 42, 89, 180, 0, 53, 4]
abbrev dktX7_scan_0 : List UInt8 := dkwX7_scan_0 ++ dktX7_scan_1
theorem dksX7_scan_0 : cX7_scan.data.toList.drop 0 = dktX7_scan_0 := by decide +kernel
theorem dksX7_scan_1 : cX7_scan.data.toList.drop 24 = dktX7_scan_1 := dk_seg dksX7_scan_0 24 rfl rfl
theorem dksX7_scan_2 : cX7_scan.data.toList.drop 46 = dktX7_scan_2 := dk_seg dksX7_scan_1 22 rfl rfl
theorem dksX7_scan_3 : cX7_scan.data.toList.drop 69 = dktX7_scan_3 := dk_seg dksX7_scan_2 23 rfl rfl
theorem dksX7_scan_4 : cX7_scan.data.toList.drop 91 = dktX7_scan_4 := dk_seg dksX7_scan_3 22 rfl rfl
theorem dksX7_scan_5 : cX7_scan.data.toList.drop 114 = dktX7_scan_5 := dk_seg dksX7_scan_4 23 rfl rfl
theorem dX7_scan_0 : decode cX7_scan 0 = .ok (.aload_n 0, 1) := dk_42 (dk_at dksX7_scan_0 0 rfl rfl)
theorem dX7_scan_1 : decode cX7_scan 1 = .ok (.invokevirtual 60, 3) := dk_182 0 60 (dk_at dksX7_scan_0 1 rfl rfl)
theorem dX7_scan_4 : decode cX7_scan 4 = .ok (.bipush 32, 2) := dk_16 32 (dk_at dksX7_scan_0 4 rfl rfl)
theorem dX7_scan_6 : decode cX7_scan 6 = .ok (.if_icmp .eq 12, 3) := dk_159 0 12 (dk_at dksX7_scan_0 6 rfl rfl)
theorem dX7_scan_9 : decode cX7_scan 9 = .ok (.aload_n 0, 1) := dk_42 (dk_at dksX7_scan_0 9 rfl rfl)
theorem dX7_scan_10 : decode cX7_scan 10 = .ok (.invokevirtual 60, 3) := dk_182 0 60 (dk_at dksX7_scan_0 10 rfl rfl)
theorem dX7_scan_13 : decode cX7_scan 13 = .ok (.bipush 10, 2) := dk_16 10 (dk_at dksX7_scan_0 13 rfl rfl)
theorem dX7_scan_15 : decode cX7_scan 15 = .ok (.if_icmp .ne 16, 3) := dk_160 0 16 (dk_at dksX7_scan_0 15 rfl rfl)
theorem dX7_scan_18 : decode cX7_scan 18 = .ok (.aload_n 0, 1) := dk_42 (dk_at dksX7_scan_0 18 rfl rfl)
theorem dX7_scan_19 : decode cX7_scan 19 = .ok (.dup, 1) := dk_89 (dk_at dksX7_scan_0 19 rfl rfl)
theorem dX7_scan_20 : decode cX7_scan 20 = .ok (.getfield 53, 3) := dk_180 0 53 (dk_at dksX7_scan_0 20 rfl rfl)
theorem dX7_scan_23 : decode cX7_scan 23 = .ok (.iconst 1, 1) := dk_4 (dk_at dksX7_scan_0 23 rfl rfl)
theorem dX7_scan_24 : decode cX7_scan 24 = .ok (.iadd, 1) := dk_96 (dk_at dksX7_scan_1 0 rfl rfl)
theorem dX7_scan_25 : decode cX7_scan 25 = .ok (.putfield 53, 3) := dk_181 0 53 (dk_at dksX7_scan_1 1 rfl rfl)
theorem dX7_scan_28 : decode cX7_scan 28 = .ok (.goto (-28), 3) := dk_167 255 228 (dk_at dksX7_scan_1 4 rfl rfl)
theorem dX7_scan_31 : decode cX7_scan 31 = .ok (.aload_n 0, 1) := dk_42 (dk_at dksX7_scan_1 7 rfl rfl)
theorem dX7_scan_32 : decode cX7_scan 32 = .ok (.aload_n 0, 1) := dk_42 (dk_at dksX7_scan_1 8 rfl rfl)
theorem dX7_scan_33 : decode cX7_scan 33 = .ok (.getfield 53, 3) := dk_180 0 53 (dk_at dksX7_scan_1 9 rfl rfl)
theorem dX7_scan_36 : decode cX7_scan 36 = .ok (.putfield 76, 3) := dk_181 0 76 (dk_at dksX7_scan_1 12 rfl rfl)
theorem dX7_scan_39 : decode cX7_scan 39 = .ok (.aload_n 0, 1) := dk_42 (dk_at dksX7_scan_1 15 rfl rfl)
theorem dX7_scan_40 : decode cX7_scan 40 = .ok (.ldc 31, 2) := dk_18 31 (dk_at dksX7_scan_1 16 rfl rfl)
theorem dX7_scan_42 : decode cX7_scan 42 = .ok (.putfield 33, 3) := dk_181 0 33 (dk_at dksX7_scan_1 18 rfl rfl)
theorem dX7_scan_45 : decode cX7_scan 45 = .ok (.aload_n 0, 1) := dk_42 (dk_at dksX7_scan_1 21 rfl rfl)
theorem dX7_scan_46 : decode cX7_scan 46 = .ok (.invokevirtual 60, 3) := dk_182 0 60 (dk_at dksX7_scan_2 0 rfl rfl)
theorem dX7_scan_49 : decode cX7_scan 49 = .ok (.iconst (-1), 1) := dk_2 (dk_at dksX7_scan_2 3 rfl rfl)
theorem dX7_scan_50 : decode cX7_scan 50 = .ok (.if_icmp .ne 11, 3) := dk_160 0 11 (dk_at dksX7_scan_2 4 rfl rfl)
theorem dX7_scan_53 : decode cX7_scan 53 = .ok (.aload_n 0, 1) := dk_42 (dk_at dksX7_scan_2 7 rfl rfl)
theorem dX7_scan_54 : decode cX7_scan 54 = .ok (.iconst 0, 1) := dk_3 (dk_at dksX7_scan_2 8 rfl rfl)
theorem dX7_scan_55 : decode cX7_scan 55 = .ok (.putfield 79, 3) := dk_181 0 79 (dk_at dksX7_scan_2 9 rfl rfl)
theorem dX7_scan_58 : decode cX7_scan 58 = .ok (.goto 59, 3) := dk_167 0 59 (dk_at dksX7_scan_2 12 rfl rfl)
theorem dX7_scan_61 : decode cX7_scan 61 = .ok (.aload_n 0, 1) := dk_42 (dk_at dksX7_scan_2 15 rfl rfl)
theorem dX7_scan_62 : decode cX7_scan 62 = .ok (.invokevirtual 82, 3) := dk_182 0 82 (dk_at dksX7_scan_2 16 rfl rfl)
theorem dX7_scan_65 : decode cX7_scan 65 = .ok (.ifCond .eq 10, 3) := dk_153 0 10 (dk_at dksX7_scan_2 19 rfl rfl)
theorem dX7_scan_68 : decode cX7_scan 68 = .ok (.aload_n 0, 1) := dk_42 (dk_at dksX7_scan_2 22 rfl rfl)
theorem dX7_scan_69 : decode cX7_scan 69 = .ok (.invokevirtual 86, 3) := dk_182 0 86 (dk_at dksX7_scan_3 0 rfl rfl)
theorem dX7_scan_72 : decode cX7_scan 72 = .ok (.goto 45, 3) := dk_167 0 45 (dk_at dksX7_scan_3 3 rfl rfl)
theorem dX7_scan_75 : decode cX7_scan 75 = .ok (.aload_n 0, 1) := dk_42 (dk_at dksX7_scan_3 6 rfl rfl)
theorem dX7_scan_76 : decode cX7_scan 76 = .ok (.invokevirtual 89, 3) := dk_182 0 89 (dk_at dksX7_scan_3 7 rfl rfl)
theorem dX7_scan_79 : decode cX7_scan 79 = .ok (.ifCond .eq 10, 3) := dk_153 0 10 (dk_at dksX7_scan_3 10 rfl rfl)
theorem dX7_scan_82 : decode cX7_scan 82 = .ok (.aload_n 0, 1) := dk_42 (dk_at dksX7_scan_3 13 rfl rfl)
theorem dX7_scan_83 : decode cX7_scan 83 = .ok (.invokevirtual 92, 3) := dk_182 0 92 (dk_at dksX7_scan_3 14 rfl rfl)
theorem dX7_scan_86 : decode cX7_scan 86 = .ok (.goto 31, 3) := dk_167 0 31 (dk_at dksX7_scan_3 17 rfl rfl)
theorem dX7_scan_89 : decode cX7_scan 89 = .ok (.aload_n 0, 1) := dk_42 (dk_at dksX7_scan_3 20 rfl rfl)
theorem dX7_scan_90 : decode cX7_scan 90 = .ok (.aload_n 0, 1) := dk_42 (dk_at dksX7_scan_3 21 rfl rfl)
theorem dX7_scan_91 : decode cX7_scan 91 = .ok (.invokevirtual 60, 3) := dk_182 0 60 (dk_at dksX7_scan_4 0 rfl rfl)
theorem dX7_scan_94 : decode cX7_scan 94 = .ok (.bipush 59, 2) := dk_16 59 (dk_at dksX7_scan_4 3 rfl rfl)
theorem dX7_scan_96 : decode cX7_scan 96 = .ok (.if_icmp .ne 7, 3) := dk_160 0 7 (dk_at dksX7_scan_4 5 rfl rfl)
theorem dX7_scan_99 : decode cX7_scan 99 = .ok (.iconst 3, 1) := dk_6 (dk_at dksX7_scan_4 8 rfl rfl)
theorem dX7_scan_100 : decode cX7_scan 100 = .ok (.goto 4, 3) := dk_167 0 4 (dk_at dksX7_scan_4 9 rfl rfl)
theorem dX7_scan_103 : decode cX7_scan 103 = .ok (.iconst 4, 1) := dk_7 (dk_at dksX7_scan_4 12 rfl rfl)
theorem dX7_scan_104 : decode cX7_scan 104 = .ok (.putfield 79, 3) := dk_181 0 79 (dk_at dksX7_scan_4 13 rfl rfl)
theorem dX7_scan_107 : decode cX7_scan 107 = .ok (.aload_n 0, 1) := dk_42 (dk_at dksX7_scan_4 16 rfl rfl)
theorem dX7_scan_108 : decode cX7_scan 108 = .ok (.dup, 1) := dk_89 (dk_at dksX7_scan_4 17 rfl rfl)
theorem dX7_scan_109 : decode cX7_scan 109 = .ok (.getfield 53, 3) := dk_180 0 53 (dk_at dksX7_scan_4 18 rfl rfl)
theorem dX7_scan_112 : decode cX7_scan 112 = .ok (.iconst 1, 1) := dk_4 (dk_at dksX7_scan_4 21 rfl rfl)
theorem dX7_scan_113 : decode cX7_scan 113 = .ok (.iadd, 1) := dk_96 (dk_at dksX7_scan_4 22 rfl rfl)
theorem dX7_scan_114 : decode cX7_scan 114 = .ok (.putfield 53, 3) := dk_181 0 53 (dk_at dksX7_scan_5 0 rfl rfl)
theorem dX7_scan_117 : decode cX7_scan 117 = .ok (.return_, 1) := dk_177 (dk_at dksX7_scan_5 3 rfl rfl)
abbrev cX7_peek : ByteArray := prog_11_method_2_code
def yX7_peek : MethodName := ⟨RX7, "peek", "()I"⟩
def dkwX7_peek_1 : List UInt8 := [17, 0, 255, 126, 167, 0, 4, 2, 172]
abbrev dktX7_peek_1 : List UInt8 := dkwX7_peek_1 ++ []
def dkwX7_peek_0 : List UInt8 := [42, 180, 0, 53, 42, 180, 0, 41, 162, 0, 22, 42, 180, 0, 3, 180, 0, 56, 42, 180, 0, 53, 51]
abbrev dktX7_peek_0 : List UInt8 := dkwX7_peek_0 ++ dktX7_peek_1
theorem dksX7_peek_0 : cX7_peek.data.toList.drop 0 = dktX7_peek_0 := by decide +kernel
theorem dksX7_peek_1 : cX7_peek.data.toList.drop 23 = dktX7_peek_1 := dk_seg dksX7_peek_0 23 rfl rfl
theorem dX7_peek_0 : decode cX7_peek 0 = .ok (.aload_n 0, 1) := dk_42 (dk_at dksX7_peek_0 0 rfl rfl)
theorem dX7_peek_1 : decode cX7_peek 1 = .ok (.getfield 53, 3) := dk_180 0 53 (dk_at dksX7_peek_0 1 rfl rfl)
theorem dX7_peek_4 : decode cX7_peek 4 = .ok (.aload_n 0, 1) := dk_42 (dk_at dksX7_peek_0 4 rfl rfl)
theorem dX7_peek_5 : decode cX7_peek 5 = .ok (.getfield 41, 3) := dk_180 0 41 (dk_at dksX7_peek_0 5 rfl rfl)
theorem dX7_peek_8 : decode cX7_peek 8 = .ok (.if_icmp .ge 22, 3) := dk_162 0 22 (dk_at dksX7_peek_0 8 rfl rfl)
theorem dX7_peek_11 : decode cX7_peek 11 = .ok (.aload_n 0, 1) := dk_42 (dk_at dksX7_peek_0 11 rfl rfl)
theorem dX7_peek_12 : decode cX7_peek 12 = .ok (.getfield 3, 3) := dk_180 0 3 (dk_at dksX7_peek_0 12 rfl rfl)
theorem dX7_peek_15 : decode cX7_peek 15 = .ok (.getfield 56, 3) := dk_180 0 56 (dk_at dksX7_peek_0 15 rfl rfl)
theorem dX7_peek_18 : decode cX7_peek 18 = .ok (.aload_n 0, 1) := dk_42 (dk_at dksX7_peek_0 18 rfl rfl)
theorem dX7_peek_19 : decode cX7_peek 19 = .ok (.getfield 53, 3) := dk_180 0 53 (dk_at dksX7_peek_0 19 rfl rfl)
theorem dX7_peek_22 : decode cX7_peek 22 = .ok (.baload, 1) := dk_51 (dk_at dksX7_peek_0 22 rfl rfl)
theorem dX7_peek_23 : decode cX7_peek 23 = .ok (.sipush 255, 3) := dk_17 0 255 (dk_at dksX7_peek_1 0 rfl rfl)
theorem dX7_peek_26 : decode cX7_peek 26 = .ok (.iand, 1) := dk_126 (dk_at dksX7_peek_1 3 rfl rfl)
theorem dX7_peek_27 : decode cX7_peek 27 = .ok (.goto 4, 3) := dk_167 0 4 (dk_at dksX7_peek_1 4 rfl rfl)
theorem dX7_peek_30 : decode cX7_peek 30 = .ok (.iconst (-1), 1) := dk_2 (dk_at dksX7_peek_1 7 rfl rfl)
theorem dX7_peek_31 : decode cX7_peek 31 = .ok (.ireturn, 1) := dk_172 (dk_at dksX7_peek_1 8 rfl rfl)
abbrev cX7_isLetter : ByteArray := prog_11_method_4_code
def yX7_isLetter : MethodName := ⟨RX7, "isLetter", "()Z"⟩
def dkwX7_isLetter_0 : List UInt8 := [42, 182, 0, 60, 133, 20, 0, 72, 20, 0, 74, 184, 0, 68, 172]
abbrev dktX7_isLetter_0 : List UInt8 := dkwX7_isLetter_0 ++ []
theorem dksX7_isLetter_0 : cX7_isLetter.data.toList.drop 0 = dktX7_isLetter_0 := by decide +kernel
theorem dX7_isLetter_0 : decode cX7_isLetter 0 = .ok (.aload_n 0, 1) := dk_42 (dk_at dksX7_isLetter_0 0 rfl rfl)
theorem dX7_isLetter_1 : decode cX7_isLetter 1 = .ok (.invokevirtual 60, 3) := dk_182 0 60 (dk_at dksX7_isLetter_0 1 rfl rfl)
theorem dX7_isLetter_4 : decode cX7_isLetter 4 = .ok (.i2l, 1) := dk_133 (dk_at dksX7_isLetter_0 4 rfl rfl)
theorem dX7_isLetter_5 : decode cX7_isLetter 5 = .ok (.ldc2_w 72, 3) := dk_20 0 72 (dk_at dksX7_isLetter_0 5 rfl rfl)
theorem dX7_isLetter_8 : decode cX7_isLetter 8 = .ok (.ldc2_w 74, 3) := dk_20 0 74 (dk_at dksX7_isLetter_0 8 rfl rfl)
theorem dX7_isLetter_11 : decode cX7_isLetter 11 = .ok (.invokestatic 68, 3) := dk_184 0 68 (dk_at dksX7_isLetter_0 11 rfl rfl)
theorem dX7_isLetter_14 : decode cX7_isLetter 14 = .ok (.ireturn, 1) := dk_172 (dk_at dksX7_isLetter_0 14 rfl rfl)
abbrev cX7_scanWord : ByteArray := prog_11_method_6_code
def yX7_scanWord : MethodName := ⟨RX7, "scanWord", "()V"⟩
def dkwX7_scanWord_3 : List UInt8 := [180, 0, 76, 100, 16, 10, 164, 0, 7, 7, 167, 0, 4, 4, 181, 0, 79, 177]
abbrev dktX7_scanWord_3 : List UInt8 := dkwX7_scanWord_3 ++ []
def dkwX7_scanWord_2 : List UInt8 := [4, 96, 181, 0, 53, 167, 255, 215, 42, 43, 182, 0, 104, 181, 0, 33, 42, 42, 180, 0, 53, 42]
abbrev dktX7_scanWord_2 : List UInt8 := dkwX7_scanWord_2 ++ dktX7_scanWord_3
def dkwX7_scanWord_1 : List UInt8 := [180, 0, 76, 100, 16, 10, 162, 0, 13, 43, 42, 182, 0, 60, 146, 182, 0, 100, 87, 42, 89, 180, 0, 53]
abbrev dktX7_scanWord_1 : List UInt8 := dkwX7_scanWord_1 ++ dktX7_scanWord_2
def dkwX7_scanWord_0 : List UInt8 := [187, 0, 95, 89, 16, 10, 183, 0, 97, 76, 42, 182, 0, 82, 153, 0, 40, 42, 180, 0, 53, 42]
abbrev dktX7_scanWord_0 : List UInt8 := dkwX7_scanWord_0 ++ dktX7_scanWord_1
theorem dksX7_scanWord_0 : cX7_scanWord.data.toList.drop 0 = dktX7_scanWord_0 := by decide +kernel
theorem dksX7_scanWord_1 : cX7_scanWord.data.toList.drop 22 = dktX7_scanWord_1 := dk_seg dksX7_scanWord_0 22 rfl rfl
theorem dksX7_scanWord_2 : cX7_scanWord.data.toList.drop 46 = dktX7_scanWord_2 := dk_seg dksX7_scanWord_1 24 rfl rfl
theorem dksX7_scanWord_3 : cX7_scanWord.data.toList.drop 68 = dktX7_scanWord_3 := dk_seg dksX7_scanWord_2 22 rfl rfl
theorem dX7_scanWord_0 : decode cX7_scanWord 0 = .ok (.new 95, 3) := dk_187 0 95 (dk_at dksX7_scanWord_0 0 rfl rfl)
theorem dX7_scanWord_3 : decode cX7_scanWord 3 = .ok (.dup, 1) := dk_89 (dk_at dksX7_scanWord_0 3 rfl rfl)
theorem dX7_scanWord_4 : decode cX7_scanWord 4 = .ok (.bipush 10, 2) := dk_16 10 (dk_at dksX7_scanWord_0 4 rfl rfl)
theorem dX7_scanWord_6 : decode cX7_scanWord 6 = .ok (.invokespecial 97, 3) := dk_183 0 97 (dk_at dksX7_scanWord_0 6 rfl rfl)
theorem dX7_scanWord_9 : decode cX7_scanWord 9 = .ok (.astore_n 1, 1) := dk_76 (dk_at dksX7_scanWord_0 9 rfl rfl)
theorem dX7_scanWord_10 : decode cX7_scanWord 10 = .ok (.aload_n 0, 1) := dk_42 (dk_at dksX7_scanWord_0 10 rfl rfl)
theorem dX7_scanWord_11 : decode cX7_scanWord 11 = .ok (.invokevirtual 82, 3) := dk_182 0 82 (dk_at dksX7_scanWord_0 11 rfl rfl)
theorem dX7_scanWord_14 : decode cX7_scanWord 14 = .ok (.ifCond .eq 40, 3) := dk_153 0 40 (dk_at dksX7_scanWord_0 14 rfl rfl)
theorem dX7_scanWord_17 : decode cX7_scanWord 17 = .ok (.aload_n 0, 1) := dk_42 (dk_at dksX7_scanWord_0 17 rfl rfl)
theorem dX7_scanWord_18 : decode cX7_scanWord 18 = .ok (.getfield 53, 3) := dk_180 0 53 (dk_at dksX7_scanWord_0 18 rfl rfl)
theorem dX7_scanWord_21 : decode cX7_scanWord 21 = .ok (.aload_n 0, 1) := dk_42 (dk_at dksX7_scanWord_0 21 rfl rfl)
theorem dX7_scanWord_22 : decode cX7_scanWord 22 = .ok (.getfield 76, 3) := dk_180 0 76 (dk_at dksX7_scanWord_1 0 rfl rfl)
theorem dX7_scanWord_25 : decode cX7_scanWord 25 = .ok (.isub, 1) := dk_100 (dk_at dksX7_scanWord_1 3 rfl rfl)
theorem dX7_scanWord_26 : decode cX7_scanWord 26 = .ok (.bipush 10, 2) := dk_16 10 (dk_at dksX7_scanWord_1 4 rfl rfl)
theorem dX7_scanWord_28 : decode cX7_scanWord 28 = .ok (.if_icmp .ge 13, 3) := dk_162 0 13 (dk_at dksX7_scanWord_1 6 rfl rfl)
theorem dX7_scanWord_31 : decode cX7_scanWord 31 = .ok (.aload_n 1, 1) := dk_43 (dk_at dksX7_scanWord_1 9 rfl rfl)
theorem dX7_scanWord_32 : decode cX7_scanWord 32 = .ok (.aload_n 0, 1) := dk_42 (dk_at dksX7_scanWord_1 10 rfl rfl)
theorem dX7_scanWord_33 : decode cX7_scanWord 33 = .ok (.invokevirtual 60, 3) := dk_182 0 60 (dk_at dksX7_scanWord_1 11 rfl rfl)
theorem dX7_scanWord_36 : decode cX7_scanWord 36 = .ok (.i2c, 1) := dk_146 (dk_at dksX7_scanWord_1 14 rfl rfl)
theorem dX7_scanWord_37 : decode cX7_scanWord 37 = .ok (.invokevirtual 100, 3) := dk_182 0 100 (dk_at dksX7_scanWord_1 15 rfl rfl)
theorem dX7_scanWord_40 : decode cX7_scanWord 40 = .ok (.pop, 1) := dk_87 (dk_at dksX7_scanWord_1 18 rfl rfl)
theorem dX7_scanWord_41 : decode cX7_scanWord 41 = .ok (.aload_n 0, 1) := dk_42 (dk_at dksX7_scanWord_1 19 rfl rfl)
theorem dX7_scanWord_42 : decode cX7_scanWord 42 = .ok (.dup, 1) := dk_89 (dk_at dksX7_scanWord_1 20 rfl rfl)
theorem dX7_scanWord_43 : decode cX7_scanWord 43 = .ok (.getfield 53, 3) := dk_180 0 53 (dk_at dksX7_scanWord_1 21 rfl rfl)
theorem dX7_scanWord_46 : decode cX7_scanWord 46 = .ok (.iconst 1, 1) := dk_4 (dk_at dksX7_scanWord_2 0 rfl rfl)
theorem dX7_scanWord_47 : decode cX7_scanWord 47 = .ok (.iadd, 1) := dk_96 (dk_at dksX7_scanWord_2 1 rfl rfl)
theorem dX7_scanWord_48 : decode cX7_scanWord 48 = .ok (.putfield 53, 3) := dk_181 0 53 (dk_at dksX7_scanWord_2 2 rfl rfl)
theorem dX7_scanWord_51 : decode cX7_scanWord 51 = .ok (.goto (-41), 3) := dk_167 255 215 (dk_at dksX7_scanWord_2 5 rfl rfl)
theorem dX7_scanWord_54 : decode cX7_scanWord 54 = .ok (.aload_n 0, 1) := dk_42 (dk_at dksX7_scanWord_2 8 rfl rfl)
theorem dX7_scanWord_55 : decode cX7_scanWord 55 = .ok (.aload_n 1, 1) := dk_43 (dk_at dksX7_scanWord_2 9 rfl rfl)
theorem dX7_scanWord_56 : decode cX7_scanWord 56 = .ok (.invokevirtual 104, 3) := dk_182 0 104 (dk_at dksX7_scanWord_2 10 rfl rfl)
theorem dX7_scanWord_59 : decode cX7_scanWord 59 = .ok (.putfield 33, 3) := dk_181 0 33 (dk_at dksX7_scanWord_2 13 rfl rfl)
theorem dX7_scanWord_62 : decode cX7_scanWord 62 = .ok (.aload_n 0, 1) := dk_42 (dk_at dksX7_scanWord_2 16 rfl rfl)
theorem dX7_scanWord_63 : decode cX7_scanWord 63 = .ok (.aload_n 0, 1) := dk_42 (dk_at dksX7_scanWord_2 17 rfl rfl)
theorem dX7_scanWord_64 : decode cX7_scanWord 64 = .ok (.getfield 53, 3) := dk_180 0 53 (dk_at dksX7_scanWord_2 18 rfl rfl)
theorem dX7_scanWord_67 : decode cX7_scanWord 67 = .ok (.aload_n 0, 1) := dk_42 (dk_at dksX7_scanWord_2 21 rfl rfl)
theorem dX7_scanWord_68 : decode cX7_scanWord 68 = .ok (.getfield 76, 3) := dk_180 0 76 (dk_at dksX7_scanWord_3 0 rfl rfl)
theorem dX7_scanWord_71 : decode cX7_scanWord 71 = .ok (.isub, 1) := dk_100 (dk_at dksX7_scanWord_3 3 rfl rfl)
theorem dX7_scanWord_72 : decode cX7_scanWord 72 = .ok (.bipush 10, 2) := dk_16 10 (dk_at dksX7_scanWord_3 4 rfl rfl)
theorem dX7_scanWord_74 : decode cX7_scanWord 74 = .ok (.if_icmp .le 7, 3) := dk_164 0 7 (dk_at dksX7_scanWord_3 6 rfl rfl)
theorem dX7_scanWord_77 : decode cX7_scanWord 77 = .ok (.iconst 4, 1) := dk_7 (dk_at dksX7_scanWord_3 9 rfl rfl)
theorem dX7_scanWord_78 : decode cX7_scanWord 78 = .ok (.goto 4, 3) := dk_167 0 4 (dk_at dksX7_scanWord_3 10 rfl rfl)
theorem dX7_scanWord_81 : decode cX7_scanWord 81 = .ok (.iconst 1, 1) := dk_4 (dk_at dksX7_scanWord_3 13 rfl rfl)
theorem dX7_scanWord_82 : decode cX7_scanWord 82 = .ok (.putfield 79, 3) := dk_181 0 79 (dk_at dksX7_scanWord_3 14 rfl rfl)
theorem dX7_scanWord_85 : decode cX7_scanWord 85 = .ok (.return_, 1) := dk_177 (dk_at dksX7_scanWord_3 17 rfl rfl)
abbrev cX7_isDigit : ByteArray := prog_11_method_3_code
def yX7_isDigit : MethodName := ⟨RX7, "isDigit", "()Z"⟩
def dkwX7_isDigit_0 : List UInt8 := [42, 182, 0, 60, 133, 20, 0, 64, 20, 0, 66, 184, 0, 68, 172]
abbrev dktX7_isDigit_0 : List UInt8 := dkwX7_isDigit_0 ++ []
theorem dksX7_isDigit_0 : cX7_isDigit.data.toList.drop 0 = dktX7_isDigit_0 := by decide +kernel
theorem dX7_isDigit_0 : decode cX7_isDigit 0 = .ok (.aload_n 0, 1) := dk_42 (dk_at dksX7_isDigit_0 0 rfl rfl)
theorem dX7_isDigit_1 : decode cX7_isDigit 1 = .ok (.invokevirtual 60, 3) := dk_182 0 60 (dk_at dksX7_isDigit_0 1 rfl rfl)
theorem dX7_isDigit_4 : decode cX7_isDigit 4 = .ok (.i2l, 1) := dk_133 (dk_at dksX7_isDigit_0 4 rfl rfl)
theorem dX7_isDigit_5 : decode cX7_isDigit 5 = .ok (.ldc2_w 64, 3) := dk_20 0 64 (dk_at dksX7_isDigit_0 5 rfl rfl)
theorem dX7_isDigit_8 : decode cX7_isDigit 8 = .ok (.ldc2_w 66, 3) := dk_20 0 66 (dk_at dksX7_isDigit_0 8 rfl rfl)
theorem dX7_isDigit_11 : decode cX7_isDigit 11 = .ok (.invokestatic 68, 3) := dk_184 0 68 (dk_at dksX7_isDigit_0 11 rfl rfl)
theorem dX7_isDigit_14 : decode cX7_isDigit 14 = .ok (.ireturn, 1) := dk_172 (dk_at dksX7_isDigit_0 14 rfl rfl)
abbrev cX7_scanNumber : ByteArray := prog_11_method_7_code
def yX7_scanNumber : MethodName := ⟨RX7, "scanNumber", "()V"⟩
def dkwX7_scanNumber_3 : List UInt8 := [164, 0, 7, 7, 167, 0, 4, 5, 181, 0, 79, 177]
abbrev dktX7_scanNumber_3 : List UInt8 := dkwX7_scanNumber_3 ++ []
def dkwX7_scanNumber_2 : List UInt8 := [180, 0, 53, 4, 96, 181, 0, 53, 167, 255, 206, 42, 42, 180, 0, 53, 42, 180, 0, 76, 100, 16, 6]
abbrev dktX7_scanNumber_2 : List UInt8 := dkwX7_scanNumber_2 ++ dktX7_scanNumber_3
def dkwX7_scanNumber_1 : List UInt8 := [162, 0, 22, 42, 16, 10, 42, 180, 0, 108, 104, 42, 182, 0, 60, 96, 16, 48, 100, 181, 0, 108, 42, 89]
abbrev dktX7_scanNumber_1 : List UInt8 := dkwX7_scanNumber_1 ++ dktX7_scanNumber_2
def dkwX7_scanNumber_0 : List UInt8 := [42, 3, 181, 0, 108, 42, 182, 0, 89, 153, 0, 49, 42, 180, 0, 53, 42, 180, 0, 76, 100, 16, 6]
abbrev dktX7_scanNumber_0 : List UInt8 := dkwX7_scanNumber_0 ++ dktX7_scanNumber_1
theorem dksX7_scanNumber_0 : cX7_scanNumber.data.toList.drop 0 = dktX7_scanNumber_0 := by decide +kernel
theorem dksX7_scanNumber_1 : cX7_scanNumber.data.toList.drop 23 = dktX7_scanNumber_1 := dk_seg dksX7_scanNumber_0 23 rfl rfl
theorem dksX7_scanNumber_2 : cX7_scanNumber.data.toList.drop 47 = dktX7_scanNumber_2 := dk_seg dksX7_scanNumber_1 24 rfl rfl
theorem dksX7_scanNumber_3 : cX7_scanNumber.data.toList.drop 70 = dktX7_scanNumber_3 := dk_seg dksX7_scanNumber_2 23 rfl rfl
theorem dX7_scanNumber_0 : decode cX7_scanNumber 0 = .ok (.aload_n 0, 1) := dk_42 (dk_at dksX7_scanNumber_0 0 rfl rfl)
theorem dX7_scanNumber_1 : decode cX7_scanNumber 1 = .ok (.iconst 0, 1) := dk_3 (dk_at dksX7_scanNumber_0 1 rfl rfl)
theorem dX7_scanNumber_2 : decode cX7_scanNumber 2 = .ok (.putfield 108, 3) := dk_181 0 108 (dk_at dksX7_scanNumber_0 2 rfl rfl)
theorem dX7_scanNumber_5 : decode cX7_scanNumber 5 = .ok (.aload_n 0, 1) := dk_42 (dk_at dksX7_scanNumber_0 5 rfl rfl)
theorem dX7_scanNumber_6 : decode cX7_scanNumber 6 = .ok (.invokevirtual 89, 3) := dk_182 0 89 (dk_at dksX7_scanNumber_0 6 rfl rfl)
theorem dX7_scanNumber_9 : decode cX7_scanNumber 9 = .ok (.ifCond .eq 49, 3) := dk_153 0 49 (dk_at dksX7_scanNumber_0 9 rfl rfl)
theorem dX7_scanNumber_12 : decode cX7_scanNumber 12 = .ok (.aload_n 0, 1) := dk_42 (dk_at dksX7_scanNumber_0 12 rfl rfl)
theorem dX7_scanNumber_13 : decode cX7_scanNumber 13 = .ok (.getfield 53, 3) := dk_180 0 53 (dk_at dksX7_scanNumber_0 13 rfl rfl)
theorem dX7_scanNumber_16 : decode cX7_scanNumber 16 = .ok (.aload_n 0, 1) := dk_42 (dk_at dksX7_scanNumber_0 16 rfl rfl)
theorem dX7_scanNumber_17 : decode cX7_scanNumber 17 = .ok (.getfield 76, 3) := dk_180 0 76 (dk_at dksX7_scanNumber_0 17 rfl rfl)
theorem dX7_scanNumber_20 : decode cX7_scanNumber 20 = .ok (.isub, 1) := dk_100 (dk_at dksX7_scanNumber_0 20 rfl rfl)
theorem dX7_scanNumber_21 : decode cX7_scanNumber 21 = .ok (.bipush 6, 2) := dk_16 6 (dk_at dksX7_scanNumber_0 21 rfl rfl)
theorem dX7_scanNumber_23 : decode cX7_scanNumber 23 = .ok (.if_icmp .ge 22, 3) := dk_162 0 22 (dk_at dksX7_scanNumber_1 0 rfl rfl)
theorem dX7_scanNumber_26 : decode cX7_scanNumber 26 = .ok (.aload_n 0, 1) := dk_42 (dk_at dksX7_scanNumber_1 3 rfl rfl)
theorem dX7_scanNumber_27 : decode cX7_scanNumber 27 = .ok (.bipush 10, 2) := dk_16 10 (dk_at dksX7_scanNumber_1 4 rfl rfl)
theorem dX7_scanNumber_29 : decode cX7_scanNumber 29 = .ok (.aload_n 0, 1) := dk_42 (dk_at dksX7_scanNumber_1 6 rfl rfl)
theorem dX7_scanNumber_30 : decode cX7_scanNumber 30 = .ok (.getfield 108, 3) := dk_180 0 108 (dk_at dksX7_scanNumber_1 7 rfl rfl)
theorem dX7_scanNumber_33 : decode cX7_scanNumber 33 = .ok (.imul, 1) := dk_104 (dk_at dksX7_scanNumber_1 10 rfl rfl)
theorem dX7_scanNumber_34 : decode cX7_scanNumber 34 = .ok (.aload_n 0, 1) := dk_42 (dk_at dksX7_scanNumber_1 11 rfl rfl)
theorem dX7_scanNumber_35 : decode cX7_scanNumber 35 = .ok (.invokevirtual 60, 3) := dk_182 0 60 (dk_at dksX7_scanNumber_1 12 rfl rfl)
theorem dX7_scanNumber_38 : decode cX7_scanNumber 38 = .ok (.iadd, 1) := dk_96 (dk_at dksX7_scanNumber_1 15 rfl rfl)
theorem dX7_scanNumber_39 : decode cX7_scanNumber 39 = .ok (.bipush 48, 2) := dk_16 48 (dk_at dksX7_scanNumber_1 16 rfl rfl)
theorem dX7_scanNumber_41 : decode cX7_scanNumber 41 = .ok (.isub, 1) := dk_100 (dk_at dksX7_scanNumber_1 18 rfl rfl)
theorem dX7_scanNumber_42 : decode cX7_scanNumber 42 = .ok (.putfield 108, 3) := dk_181 0 108 (dk_at dksX7_scanNumber_1 19 rfl rfl)
theorem dX7_scanNumber_45 : decode cX7_scanNumber 45 = .ok (.aload_n 0, 1) := dk_42 (dk_at dksX7_scanNumber_1 22 rfl rfl)
theorem dX7_scanNumber_46 : decode cX7_scanNumber 46 = .ok (.dup, 1) := dk_89 (dk_at dksX7_scanNumber_1 23 rfl rfl)
theorem dX7_scanNumber_47 : decode cX7_scanNumber 47 = .ok (.getfield 53, 3) := dk_180 0 53 (dk_at dksX7_scanNumber_2 0 rfl rfl)
theorem dX7_scanNumber_50 : decode cX7_scanNumber 50 = .ok (.iconst 1, 1) := dk_4 (dk_at dksX7_scanNumber_2 3 rfl rfl)
theorem dX7_scanNumber_51 : decode cX7_scanNumber 51 = .ok (.iadd, 1) := dk_96 (dk_at dksX7_scanNumber_2 4 rfl rfl)
theorem dX7_scanNumber_52 : decode cX7_scanNumber 52 = .ok (.putfield 53, 3) := dk_181 0 53 (dk_at dksX7_scanNumber_2 5 rfl rfl)
theorem dX7_scanNumber_55 : decode cX7_scanNumber 55 = .ok (.goto (-50), 3) := dk_167 255 206 (dk_at dksX7_scanNumber_2 8 rfl rfl)
theorem dX7_scanNumber_58 : decode cX7_scanNumber 58 = .ok (.aload_n 0, 1) := dk_42 (dk_at dksX7_scanNumber_2 11 rfl rfl)
theorem dX7_scanNumber_59 : decode cX7_scanNumber 59 = .ok (.aload_n 0, 1) := dk_42 (dk_at dksX7_scanNumber_2 12 rfl rfl)
theorem dX7_scanNumber_60 : decode cX7_scanNumber 60 = .ok (.getfield 53, 3) := dk_180 0 53 (dk_at dksX7_scanNumber_2 13 rfl rfl)
theorem dX7_scanNumber_63 : decode cX7_scanNumber 63 = .ok (.aload_n 0, 1) := dk_42 (dk_at dksX7_scanNumber_2 16 rfl rfl)
theorem dX7_scanNumber_64 : decode cX7_scanNumber 64 = .ok (.getfield 76, 3) := dk_180 0 76 (dk_at dksX7_scanNumber_2 17 rfl rfl)
theorem dX7_scanNumber_67 : decode cX7_scanNumber 67 = .ok (.isub, 1) := dk_100 (dk_at dksX7_scanNumber_2 20 rfl rfl)
theorem dX7_scanNumber_68 : decode cX7_scanNumber 68 = .ok (.bipush 6, 2) := dk_16 6 (dk_at dksX7_scanNumber_2 21 rfl rfl)
theorem dX7_scanNumber_70 : decode cX7_scanNumber 70 = .ok (.if_icmp .le 7, 3) := dk_164 0 7 (dk_at dksX7_scanNumber_3 0 rfl rfl)
theorem dX7_scanNumber_73 : decode cX7_scanNumber 73 = .ok (.iconst 4, 1) := dk_7 (dk_at dksX7_scanNumber_3 3 rfl rfl)
theorem dX7_scanNumber_74 : decode cX7_scanNumber 74 = .ok (.goto 4, 3) := dk_167 0 4 (dk_at dksX7_scanNumber_3 4 rfl rfl)
theorem dX7_scanNumber_77 : decode cX7_scanNumber 77 = .ok (.iconst 2, 1) := dk_5 (dk_at dksX7_scanNumber_3 7 rfl rfl)
theorem dX7_scanNumber_78 : decode cX7_scanNumber 78 = .ok (.putfield 79, 3) := dk_181 0 79 (dk_at dksX7_scanNumber_3 8 rfl rfl)
theorem dX7_scanNumber_81 : decode cX7_scanNumber 81 = .ok (.return_, 1) := dk_177 (dk_at dksX7_scanNumber_3 11 rfl rfl)
abbrev cX7_readJournal : ByteArray := prog_11_method_30_code
def yX7_readJournal : MethodName := ⟨RX7, "readJournal", "(Ljava/util/List;)V"⟩
def dkwX7_readJournal_2 : List UInt8 := [180, 0, 79, 6, 160, 0, 7, 4, 167, 0, 4, 3, 4, 182, 0, 116, 42, 182, 0, 50, 167, 255, 189, 177]
abbrev dktX7_readJournal_2 : List UInt8 := dkwX7_readJournal_2 ++ []
def dkwX7_readJournal_1 : List UInt8 := [4, 167, 0, 4, 3, 7, 182, 0, 116, 43, 42, 28, 182, 1, 69, 185, 0, 175, 2, 0, 87, 42, 42]
abbrev dktX7_readJournal_1 : List UInt8 := dkwX7_readJournal_1 ++ dktX7_readJournal_2
def dkwX7_readJournal_0 : List UInt8 := [42, 180, 0, 79, 153, 0, 66, 42, 182, 1, 66, 61, 42, 43, 185, 0, 157, 1, 0, 16, 40, 162, 0, 7]
abbrev dktX7_readJournal_0 : List UInt8 := dkwX7_readJournal_0 ++ dktX7_readJournal_1
theorem dksX7_readJournal_0 : cX7_readJournal.data.toList.drop 0 = dktX7_readJournal_0 := by decide +kernel
theorem dksX7_readJournal_1 : cX7_readJournal.data.toList.drop 24 = dktX7_readJournal_1 := dk_seg dksX7_readJournal_0 24 rfl rfl
theorem dksX7_readJournal_2 : cX7_readJournal.data.toList.drop 47 = dktX7_readJournal_2 := dk_seg dksX7_readJournal_1 23 rfl rfl
theorem dX7_readJournal_0 : decode cX7_readJournal 0 = .ok (.aload_n 0, 1) := dk_42 (dk_at dksX7_readJournal_0 0 rfl rfl)
theorem dX7_readJournal_1 : decode cX7_readJournal 1 = .ok (.getfield 79, 3) := dk_180 0 79 (dk_at dksX7_readJournal_0 1 rfl rfl)
theorem dX7_readJournal_4 : decode cX7_readJournal 4 = .ok (.ifCond .eq 66, 3) := dk_153 0 66 (dk_at dksX7_readJournal_0 4 rfl rfl)
theorem dX7_readJournal_7 : decode cX7_readJournal 7 = .ok (.aload_n 0, 1) := dk_42 (dk_at dksX7_readJournal_0 7 rfl rfl)
theorem dX7_readJournal_8 : decode cX7_readJournal 8 = .ok (.invokevirtual 322, 3) := dk_182 1 66 (dk_at dksX7_readJournal_0 8 rfl rfl)
theorem dX7_readJournal_11 : decode cX7_readJournal 11 = .ok (.istore_n 2, 1) := dk_61 (dk_at dksX7_readJournal_0 11 rfl rfl)
theorem dX7_readJournal_12 : decode cX7_readJournal 12 = .ok (.aload_n 0, 1) := dk_42 (dk_at dksX7_readJournal_0 12 rfl rfl)
theorem dX7_readJournal_13 : decode cX7_readJournal 13 = .ok (.aload_n 1, 1) := dk_43 (dk_at dksX7_readJournal_0 13 rfl rfl)
theorem dX7_readJournal_14 : decode cX7_readJournal 14 = .ok (.invokeinterface 157 1, 5) := by decide +kernel
theorem dX7_readJournal_19 : decode cX7_readJournal 19 = .ok (.bipush 40, 2) := dk_16 40 (dk_at dksX7_readJournal_0 19 rfl rfl)
theorem dX7_readJournal_21 : decode cX7_readJournal 21 = .ok (.if_icmp .ge 7, 3) := dk_162 0 7 (dk_at dksX7_readJournal_0 21 rfl rfl)
theorem dX7_readJournal_24 : decode cX7_readJournal 24 = .ok (.iconst 1, 1) := dk_4 (dk_at dksX7_readJournal_1 0 rfl rfl)
theorem dX7_readJournal_25 : decode cX7_readJournal 25 = .ok (.goto 4, 3) := dk_167 0 4 (dk_at dksX7_readJournal_1 1 rfl rfl)
theorem dX7_readJournal_28 : decode cX7_readJournal 28 = .ok (.iconst 0, 1) := dk_3 (dk_at dksX7_readJournal_1 4 rfl rfl)
theorem dX7_readJournal_29 : decode cX7_readJournal 29 = .ok (.iconst 4, 1) := dk_7 (dk_at dksX7_readJournal_1 5 rfl rfl)
theorem dX7_readJournal_30 : decode cX7_readJournal 30 = .ok (.invokevirtual 116, 3) := dk_182 0 116 (dk_at dksX7_readJournal_1 6 rfl rfl)
theorem dX7_readJournal_33 : decode cX7_readJournal 33 = .ok (.aload_n 1, 1) := dk_43 (dk_at dksX7_readJournal_1 9 rfl rfl)
theorem dX7_readJournal_34 : decode cX7_readJournal 34 = .ok (.aload_n 0, 1) := dk_42 (dk_at dksX7_readJournal_1 10 rfl rfl)
theorem dX7_readJournal_35 : decode cX7_readJournal 35 = .ok (.iload_n 2, 1) := dk_28 (dk_at dksX7_readJournal_1 11 rfl rfl)
theorem dX7_readJournal_36 : decode cX7_readJournal 36 = .ok (.invokevirtual 325, 3) := dk_182 1 69 (dk_at dksX7_readJournal_1 12 rfl rfl)
theorem dX7_readJournal_39 : decode cX7_readJournal 39 = .ok (.invokeinterface 175 2, 5) := by decide +kernel
theorem dX7_readJournal_44 : decode cX7_readJournal 44 = .ok (.pop, 1) := dk_87 (dk_at dksX7_readJournal_1 20 rfl rfl)
theorem dX7_readJournal_45 : decode cX7_readJournal 45 = .ok (.aload_n 0, 1) := dk_42 (dk_at dksX7_readJournal_1 21 rfl rfl)
theorem dX7_readJournal_46 : decode cX7_readJournal 46 = .ok (.aload_n 0, 1) := dk_42 (dk_at dksX7_readJournal_1 22 rfl rfl)
theorem dX7_readJournal_47 : decode cX7_readJournal 47 = .ok (.getfield 79, 3) := dk_180 0 79 (dk_at dksX7_readJournal_2 0 rfl rfl)
theorem dX7_readJournal_50 : decode cX7_readJournal 50 = .ok (.iconst 3, 1) := dk_6 (dk_at dksX7_readJournal_2 3 rfl rfl)
theorem dX7_readJournal_51 : decode cX7_readJournal 51 = .ok (.if_icmp .ne 7, 3) := dk_160 0 7 (dk_at dksX7_readJournal_2 4 rfl rfl)
theorem dX7_readJournal_54 : decode cX7_readJournal 54 = .ok (.iconst 1, 1) := dk_4 (dk_at dksX7_readJournal_2 7 rfl rfl)
theorem dX7_readJournal_55 : decode cX7_readJournal 55 = .ok (.goto 4, 3) := dk_167 0 4 (dk_at dksX7_readJournal_2 8 rfl rfl)
theorem dX7_readJournal_58 : decode cX7_readJournal 58 = .ok (.iconst 0, 1) := dk_3 (dk_at dksX7_readJournal_2 11 rfl rfl)
theorem dX7_readJournal_59 : decode cX7_readJournal 59 = .ok (.iconst 1, 1) := dk_4 (dk_at dksX7_readJournal_2 12 rfl rfl)
theorem dX7_readJournal_60 : decode cX7_readJournal 60 = .ok (.invokevirtual 116, 3) := dk_182 0 116 (dk_at dksX7_readJournal_2 13 rfl rfl)
theorem dX7_readJournal_63 : decode cX7_readJournal 63 = .ok (.aload_n 0, 1) := dk_42 (dk_at dksX7_readJournal_2 16 rfl rfl)
theorem dX7_readJournal_64 : decode cX7_readJournal 64 = .ok (.invokevirtual 50, 3) := dk_182 0 50 (dk_at dksX7_readJournal_2 17 rfl rfl)
theorem dX7_readJournal_67 : decode cX7_readJournal 67 = .ok (.goto (-67), 3) := dk_167 255 189 (dk_at dksX7_readJournal_2 20 rfl rfl)
theorem dX7_readJournal_70 : decode cX7_readJournal 70 = .ok (.return_, 1) := dk_177 (dk_at dksX7_readJournal_2 23 rfl rfl)
abbrev cX7_kindHere : ByteArray := prog_11_method_28_code
def yX7_kindHere : MethodName := ⟨RX7, "kindHere", "()I"⟩
def dkwX7_kindHere_10 : List UInt8 := [16, 6, 167, 0, 16, 187, 0, 111, 89, 4, 42, 180, 0, 76, 183, 0, 113, 191, 172]
abbrev dktX7_kindHere_10 : List UInt8 := dkwX7_kindHere_10 ++ []
def dkwX7_kindHere_9 : List UInt8 := [3, 167, 0, 41, 4, 167, 0, 37, 5, 167, 0, 33, 6, 167, 0, 29, 7, 167, 0, 25, 8, 167, 0, 21]
abbrev dktX7_kindHere_9 : List UInt8 := dkwX7_kindHere_9 ++ dktX7_kindHere_10
def dkwX7_kindHere_8 : List UInt8 := [170, 0, 0, 0, 0, 0, 0, 73, 0, 0, 0, 0, 0, 0, 0, 6, 0, 0, 0, 44, 0, 0, 0, 48, 0, 0, 0, 52, 0, 0, 0, 56, 0, 0, 0, 60, 0, 0, 0, 64, 0, 0, 0, 68]
abbrev dktX7_kindHere_8 : List UInt8 := dkwX7_kindHere_8 ++ dktX7_kindHere_9
def dkwX7_kindHere_7 : List UInt8 := [182, 0, 131, 153, 0, 6, 16, 6, 61, 28]
abbrev dktX7_kindHere_7 : List UInt8 := dkwX7_kindHere_7 ++ dktX7_kindHere_8
def dkwX7_kindHere_6 : List UInt8 := [7, 61, 167, 0, 31, 43, 19, 1, 50, 182, 0, 131, 153, 0, 21, 8, 61, 167, 0, 16, 43, 19, 1, 52]
abbrev dktX7_kindHere_6 : List UInt8 := dkwX7_kindHere_6 ++ dktX7_kindHere_7
def dkwX7_kindHere_5 : List UInt8 := [19, 1, 46, 182, 0, 131, 153, 0, 51, 6, 61, 167, 0, 46, 43, 19, 1, 48, 182, 0, 131, 153, 0, 36]
abbrev dktX7_kindHere_5 : List UInt8 := dkwX7_kindHere_5 ++ dktX7_kindHere_6
def dkwX7_kindHere_4 : List UInt8 := [153, 0, 81, 4, 61, 167, 0, 76, 43, 19, 1, 44, 182, 0, 131, 153, 0, 66, 5, 61, 167, 0, 61, 43]
abbrev dktX7_kindHere_4 : List UInt8 := dkwX7_kindHere_4 ++ dktX7_kindHere_5
def dkwX7_kindHere_3 : List UInt8 := [43, 19, 1, 40, 182, 0, 131, 153, 0, 96, 3, 61, 167, 0, 91, 43, 19, 1, 42, 182, 0, 131]
abbrev dktX7_kindHere_3 : List UInt8 := dkwX7_kindHere_3 ++ dktX7_kindHere_4
def dkwX7_kindHere_2 : List UInt8 := [171, 0, 0, 0, 0, 0, 170, 0, 0, 0, 7, 247, 169, 1, 16, 0, 0, 0, 127, 0, 1, 176, 168, 0, 0, 0, 97, 0, 55, 82, 234, 0, 0, 0, 142, 5, 165, 221, 248, 0, 0, 0, 157, 5, 224, 193, 28, 0, 0, 0, 112, 6, 130, 73, 12, 0, 0, 0, 67, 92, 108, 9, 37, 0, 0, 0, 82]
abbrev dktX7_kindHere_2 : List UInt8 := dkwX7_kindHere_2 ++ dktX7_kindHere_3
def dkwX7_kindHere_1 : List UInt8 := [61, 43, 182, 0, 124]
abbrev dktX7_kindHere_1 : List UInt8 := dkwX7_kindHere_1 ++ dktX7_kindHere_2
def dkwX7_kindHere_0 : List UInt8 := [42, 42, 180, 0, 79, 4, 160, 0, 7, 4, 167, 0, 4, 3, 4, 182, 0, 116, 42, 180, 0, 33, 76, 2]
abbrev dktX7_kindHere_0 : List UInt8 := dkwX7_kindHere_0 ++ dktX7_kindHere_1
theorem dksX7_kindHere_0 : cX7_kindHere.data.toList.drop 0 = dktX7_kindHere_0 := by decide +kernel
theorem dksX7_kindHere_1 : cX7_kindHere.data.toList.drop 24 = dktX7_kindHere_1 := dk_seg dksX7_kindHere_0 24 rfl rfl
theorem dksX7_kindHere_2 : cX7_kindHere.data.toList.drop 29 = dktX7_kindHere_2 := dk_seg dksX7_kindHere_1 5 rfl rfl
theorem dksX7_kindHere_3 : cX7_kindHere.data.toList.drop 96 = dktX7_kindHere_3 := dk_seg dksX7_kindHere_2 67 rfl rfl
theorem dksX7_kindHere_4 : cX7_kindHere.data.toList.drop 118 = dktX7_kindHere_4 := dk_seg dksX7_kindHere_3 22 rfl rfl
theorem dksX7_kindHere_5 : cX7_kindHere.data.toList.drop 142 = dktX7_kindHere_5 := dk_seg dksX7_kindHere_4 24 rfl rfl
theorem dksX7_kindHere_6 : cX7_kindHere.data.toList.drop 166 = dktX7_kindHere_6 := dk_seg dksX7_kindHere_5 24 rfl rfl
theorem dksX7_kindHere_7 : cX7_kindHere.data.toList.drop 190 = dktX7_kindHere_7 := dk_seg dksX7_kindHere_6 24 rfl rfl
theorem dksX7_kindHere_8 : cX7_kindHere.data.toList.drop 200 = dktX7_kindHere_8 := dk_seg dksX7_kindHere_7 10 rfl rfl
theorem dksX7_kindHere_9 : cX7_kindHere.data.toList.drop 244 = dktX7_kindHere_9 := dk_seg dksX7_kindHere_8 44 rfl rfl
theorem dksX7_kindHere_10 : cX7_kindHere.data.toList.drop 268 = dktX7_kindHere_10 := dk_seg dksX7_kindHere_9 24 rfl rfl
theorem dX7_kindHere_0 : decode cX7_kindHere 0 = .ok (.aload_n 0, 1) := dk_42 (dk_at dksX7_kindHere_0 0 rfl rfl)
theorem dX7_kindHere_1 : decode cX7_kindHere 1 = .ok (.aload_n 0, 1) := dk_42 (dk_at dksX7_kindHere_0 1 rfl rfl)
theorem dX7_kindHere_2 : decode cX7_kindHere 2 = .ok (.getfield 79, 3) := dk_180 0 79 (dk_at dksX7_kindHere_0 2 rfl rfl)
theorem dX7_kindHere_5 : decode cX7_kindHere 5 = .ok (.iconst 1, 1) := dk_4 (dk_at dksX7_kindHere_0 5 rfl rfl)
theorem dX7_kindHere_6 : decode cX7_kindHere 6 = .ok (.if_icmp .ne 7, 3) := dk_160 0 7 (dk_at dksX7_kindHere_0 6 rfl rfl)
theorem dX7_kindHere_9 : decode cX7_kindHere 9 = .ok (.iconst 1, 1) := dk_4 (dk_at dksX7_kindHere_0 9 rfl rfl)
theorem dX7_kindHere_10 : decode cX7_kindHere 10 = .ok (.goto 4, 3) := dk_167 0 4 (dk_at dksX7_kindHere_0 10 rfl rfl)
theorem dX7_kindHere_13 : decode cX7_kindHere 13 = .ok (.iconst 0, 1) := dk_3 (dk_at dksX7_kindHere_0 13 rfl rfl)
theorem dX7_kindHere_14 : decode cX7_kindHere 14 = .ok (.iconst 1, 1) := dk_4 (dk_at dksX7_kindHere_0 14 rfl rfl)
theorem dX7_kindHere_15 : decode cX7_kindHere 15 = .ok (.invokevirtual 116, 3) := dk_182 0 116 (dk_at dksX7_kindHere_0 15 rfl rfl)
theorem dX7_kindHere_18 : decode cX7_kindHere 18 = .ok (.aload_n 0, 1) := dk_42 (dk_at dksX7_kindHere_0 18 rfl rfl)
theorem dX7_kindHere_19 : decode cX7_kindHere 19 = .ok (.getfield 33, 3) := dk_180 0 33 (dk_at dksX7_kindHere_0 19 rfl rfl)
theorem dX7_kindHere_22 : decode cX7_kindHere 22 = .ok (.astore_n 1, 1) := dk_76 (dk_at dksX7_kindHere_0 22 rfl rfl)
theorem dX7_kindHere_23 : decode cX7_kindHere 23 = .ok (.iconst (-1), 1) := dk_2 (dk_at dksX7_kindHere_0 23 rfl rfl)
theorem dX7_kindHere_24 : decode cX7_kindHere 24 = .ok (.istore_n 2, 1) := dk_61 (dk_at dksX7_kindHere_1 0 rfl rfl)
theorem dX7_kindHere_25 : decode cX7_kindHere 25 = .ok (.aload_n 1, 1) := dk_43 (dk_at dksX7_kindHere_1 1 rfl rfl)
theorem dX7_kindHere_26 : decode cX7_kindHere 26 = .ok (.invokevirtual 124, 3) := dk_182 0 124 (dk_at dksX7_kindHere_1 2 rfl rfl)
theorem dX7_kindHere_29 : decode cX7_kindHere 29 = .ok (.lookupswitch 170 #[(-139919088, 127), (110760, 97), (3625706, 142), (94756344, 157), (98615580, 112), (109201676, 67), (1550584101, 82)], 67) := by decide +kernel
theorem dX7_kindHere_96 : decode cX7_kindHere 96 = .ok (.aload_n 1, 1) := dk_43 (dk_at dksX7_kindHere_3 0 rfl rfl)
theorem dX7_kindHere_97 : decode cX7_kindHere 97 = .ok (.ldc_w 296, 3) := dk_19 1 40 (dk_at dksX7_kindHere_3 1 rfl rfl)
theorem dX7_kindHere_100 : decode cX7_kindHere 100 = .ok (.invokevirtual 131, 3) := dk_182 0 131 (dk_at dksX7_kindHere_3 4 rfl rfl)
theorem dX7_kindHere_103 : decode cX7_kindHere 103 = .ok (.ifCond .eq 96, 3) := dk_153 0 96 (dk_at dksX7_kindHere_3 7 rfl rfl)
theorem dX7_kindHere_106 : decode cX7_kindHere 106 = .ok (.iconst 0, 1) := dk_3 (dk_at dksX7_kindHere_3 10 rfl rfl)
theorem dX7_kindHere_107 : decode cX7_kindHere 107 = .ok (.istore_n 2, 1) := dk_61 (dk_at dksX7_kindHere_3 11 rfl rfl)
theorem dX7_kindHere_108 : decode cX7_kindHere 108 = .ok (.goto 91, 3) := dk_167 0 91 (dk_at dksX7_kindHere_3 12 rfl rfl)
theorem dX7_kindHere_111 : decode cX7_kindHere 111 = .ok (.aload_n 1, 1) := dk_43 (dk_at dksX7_kindHere_3 15 rfl rfl)
theorem dX7_kindHere_112 : decode cX7_kindHere 112 = .ok (.ldc_w 298, 3) := dk_19 1 42 (dk_at dksX7_kindHere_3 16 rfl rfl)
theorem dX7_kindHere_115 : decode cX7_kindHere 115 = .ok (.invokevirtual 131, 3) := dk_182 0 131 (dk_at dksX7_kindHere_3 19 rfl rfl)
theorem dX7_kindHere_118 : decode cX7_kindHere 118 = .ok (.ifCond .eq 81, 3) := dk_153 0 81 (dk_at dksX7_kindHere_4 0 rfl rfl)
theorem dX7_kindHere_121 : decode cX7_kindHere 121 = .ok (.iconst 1, 1) := dk_4 (dk_at dksX7_kindHere_4 3 rfl rfl)
theorem dX7_kindHere_122 : decode cX7_kindHere 122 = .ok (.istore_n 2, 1) := dk_61 (dk_at dksX7_kindHere_4 4 rfl rfl)
theorem dX7_kindHere_123 : decode cX7_kindHere 123 = .ok (.goto 76, 3) := dk_167 0 76 (dk_at dksX7_kindHere_4 5 rfl rfl)
theorem dX7_kindHere_126 : decode cX7_kindHere 126 = .ok (.aload_n 1, 1) := dk_43 (dk_at dksX7_kindHere_4 8 rfl rfl)
theorem dX7_kindHere_127 : decode cX7_kindHere 127 = .ok (.ldc_w 300, 3) := dk_19 1 44 (dk_at dksX7_kindHere_4 9 rfl rfl)
theorem dX7_kindHere_130 : decode cX7_kindHere 130 = .ok (.invokevirtual 131, 3) := dk_182 0 131 (dk_at dksX7_kindHere_4 12 rfl rfl)
theorem dX7_kindHere_133 : decode cX7_kindHere 133 = .ok (.ifCond .eq 66, 3) := dk_153 0 66 (dk_at dksX7_kindHere_4 15 rfl rfl)
theorem dX7_kindHere_136 : decode cX7_kindHere 136 = .ok (.iconst 2, 1) := dk_5 (dk_at dksX7_kindHere_4 18 rfl rfl)
theorem dX7_kindHere_137 : decode cX7_kindHere 137 = .ok (.istore_n 2, 1) := dk_61 (dk_at dksX7_kindHere_4 19 rfl rfl)
theorem dX7_kindHere_138 : decode cX7_kindHere 138 = .ok (.goto 61, 3) := dk_167 0 61 (dk_at dksX7_kindHere_4 20 rfl rfl)
theorem dX7_kindHere_141 : decode cX7_kindHere 141 = .ok (.aload_n 1, 1) := dk_43 (dk_at dksX7_kindHere_4 23 rfl rfl)
theorem dX7_kindHere_142 : decode cX7_kindHere 142 = .ok (.ldc_w 302, 3) := dk_19 1 46 (dk_at dksX7_kindHere_5 0 rfl rfl)
theorem dX7_kindHere_145 : decode cX7_kindHere 145 = .ok (.invokevirtual 131, 3) := dk_182 0 131 (dk_at dksX7_kindHere_5 3 rfl rfl)
theorem dX7_kindHere_148 : decode cX7_kindHere 148 = .ok (.ifCond .eq 51, 3) := dk_153 0 51 (dk_at dksX7_kindHere_5 6 rfl rfl)
theorem dX7_kindHere_151 : decode cX7_kindHere 151 = .ok (.iconst 3, 1) := dk_6 (dk_at dksX7_kindHere_5 9 rfl rfl)
theorem dX7_kindHere_152 : decode cX7_kindHere 152 = .ok (.istore_n 2, 1) := dk_61 (dk_at dksX7_kindHere_5 10 rfl rfl)
theorem dX7_kindHere_153 : decode cX7_kindHere 153 = .ok (.goto 46, 3) := dk_167 0 46 (dk_at dksX7_kindHere_5 11 rfl rfl)
theorem dX7_kindHere_156 : decode cX7_kindHere 156 = .ok (.aload_n 1, 1) := dk_43 (dk_at dksX7_kindHere_5 14 rfl rfl)
theorem dX7_kindHere_157 : decode cX7_kindHere 157 = .ok (.ldc_w 304, 3) := dk_19 1 48 (dk_at dksX7_kindHere_5 15 rfl rfl)
theorem dX7_kindHere_160 : decode cX7_kindHere 160 = .ok (.invokevirtual 131, 3) := dk_182 0 131 (dk_at dksX7_kindHere_5 18 rfl rfl)
theorem dX7_kindHere_163 : decode cX7_kindHere 163 = .ok (.ifCond .eq 36, 3) := dk_153 0 36 (dk_at dksX7_kindHere_5 21 rfl rfl)
theorem dX7_kindHere_166 : decode cX7_kindHere 166 = .ok (.iconst 4, 1) := dk_7 (dk_at dksX7_kindHere_6 0 rfl rfl)
theorem dX7_kindHere_167 : decode cX7_kindHere 167 = .ok (.istore_n 2, 1) := dk_61 (dk_at dksX7_kindHere_6 1 rfl rfl)
theorem dX7_kindHere_168 : decode cX7_kindHere 168 = .ok (.goto 31, 3) := dk_167 0 31 (dk_at dksX7_kindHere_6 2 rfl rfl)
theorem dX7_kindHere_171 : decode cX7_kindHere 171 = .ok (.aload_n 1, 1) := dk_43 (dk_at dksX7_kindHere_6 5 rfl rfl)
theorem dX7_kindHere_172 : decode cX7_kindHere 172 = .ok (.ldc_w 306, 3) := dk_19 1 50 (dk_at dksX7_kindHere_6 6 rfl rfl)
theorem dX7_kindHere_175 : decode cX7_kindHere 175 = .ok (.invokevirtual 131, 3) := dk_182 0 131 (dk_at dksX7_kindHere_6 9 rfl rfl)
theorem dX7_kindHere_178 : decode cX7_kindHere 178 = .ok (.ifCond .eq 21, 3) := dk_153 0 21 (dk_at dksX7_kindHere_6 12 rfl rfl)
theorem dX7_kindHere_181 : decode cX7_kindHere 181 = .ok (.iconst 5, 1) := dk_8 (dk_at dksX7_kindHere_6 15 rfl rfl)
theorem dX7_kindHere_182 : decode cX7_kindHere 182 = .ok (.istore_n 2, 1) := dk_61 (dk_at dksX7_kindHere_6 16 rfl rfl)
theorem dX7_kindHere_183 : decode cX7_kindHere 183 = .ok (.goto 16, 3) := dk_167 0 16 (dk_at dksX7_kindHere_6 17 rfl rfl)
theorem dX7_kindHere_186 : decode cX7_kindHere 186 = .ok (.aload_n 1, 1) := dk_43 (dk_at dksX7_kindHere_6 20 rfl rfl)
theorem dX7_kindHere_187 : decode cX7_kindHere 187 = .ok (.ldc_w 308, 3) := dk_19 1 52 (dk_at dksX7_kindHere_6 21 rfl rfl)
theorem dX7_kindHere_190 : decode cX7_kindHere 190 = .ok (.invokevirtual 131, 3) := dk_182 0 131 (dk_at dksX7_kindHere_7 0 rfl rfl)
theorem dX7_kindHere_193 : decode cX7_kindHere 193 = .ok (.ifCond .eq 6, 3) := dk_153 0 6 (dk_at dksX7_kindHere_7 3 rfl rfl)
theorem dX7_kindHere_196 : decode cX7_kindHere 196 = .ok (.bipush 6, 2) := dk_16 6 (dk_at dksX7_kindHere_7 6 rfl rfl)
theorem dX7_kindHere_198 : decode cX7_kindHere 198 = .ok (.istore_n 2, 1) := dk_61 (dk_at dksX7_kindHere_7 8 rfl rfl)
theorem dX7_kindHere_199 : decode cX7_kindHere 199 = .ok (.iload_n 2, 1) := dk_28 (dk_at dksX7_kindHere_7 9 rfl rfl)
theorem dX7_kindHere_200 : decode cX7_kindHere 200 = .ok (.tableswitch 73 0 6 #[44, 48, 52, 56, 60, 64, 68], 44) := by decide +kernel
theorem dX7_kindHere_244 : decode cX7_kindHere 244 = .ok (.iconst 0, 1) := dk_3 (dk_at dksX7_kindHere_9 0 rfl rfl)
theorem dX7_kindHere_245 : decode cX7_kindHere 245 = .ok (.goto 41, 3) := dk_167 0 41 (dk_at dksX7_kindHere_9 1 rfl rfl)
theorem dX7_kindHere_248 : decode cX7_kindHere 248 = .ok (.iconst 1, 1) := dk_4 (dk_at dksX7_kindHere_9 4 rfl rfl)
theorem dX7_kindHere_249 : decode cX7_kindHere 249 = .ok (.goto 37, 3) := dk_167 0 37 (dk_at dksX7_kindHere_9 5 rfl rfl)
theorem dX7_kindHere_252 : decode cX7_kindHere 252 = .ok (.iconst 2, 1) := dk_5 (dk_at dksX7_kindHere_9 8 rfl rfl)
theorem dX7_kindHere_253 : decode cX7_kindHere 253 = .ok (.goto 33, 3) := dk_167 0 33 (dk_at dksX7_kindHere_9 9 rfl rfl)
theorem dX7_kindHere_256 : decode cX7_kindHere 256 = .ok (.iconst 3, 1) := dk_6 (dk_at dksX7_kindHere_9 12 rfl rfl)
theorem dX7_kindHere_257 : decode cX7_kindHere 257 = .ok (.goto 29, 3) := dk_167 0 29 (dk_at dksX7_kindHere_9 13 rfl rfl)
theorem dX7_kindHere_260 : decode cX7_kindHere 260 = .ok (.iconst 4, 1) := dk_7 (dk_at dksX7_kindHere_9 16 rfl rfl)
theorem dX7_kindHere_261 : decode cX7_kindHere 261 = .ok (.goto 25, 3) := dk_167 0 25 (dk_at dksX7_kindHere_9 17 rfl rfl)
theorem dX7_kindHere_264 : decode cX7_kindHere 264 = .ok (.iconst 5, 1) := dk_8 (dk_at dksX7_kindHere_9 20 rfl rfl)
theorem dX7_kindHere_265 : decode cX7_kindHere 265 = .ok (.goto 21, 3) := dk_167 0 21 (dk_at dksX7_kindHere_9 21 rfl rfl)
theorem dX7_kindHere_268 : decode cX7_kindHere 268 = .ok (.bipush 6, 2) := dk_16 6 (dk_at dksX7_kindHere_10 0 rfl rfl)
theorem dX7_kindHere_270 : decode cX7_kindHere 270 = .ok (.goto 16, 3) := dk_167 0 16 (dk_at dksX7_kindHere_10 2 rfl rfl)
theorem dX7_kindHere_273 : decode cX7_kindHere 273 = .ok (.new 111, 3) := dk_187 0 111 (dk_at dksX7_kindHere_10 5 rfl rfl)
theorem dX7_kindHere_276 : decode cX7_kindHere 276 = .ok (.dup, 1) := dk_89 (dk_at dksX7_kindHere_10 8 rfl rfl)
theorem dX7_kindHere_277 : decode cX7_kindHere 277 = .ok (.iconst 1, 1) := dk_4 (dk_at dksX7_kindHere_10 9 rfl rfl)
theorem dX7_kindHere_278 : decode cX7_kindHere 278 = .ok (.aload_n 0, 1) := dk_42 (dk_at dksX7_kindHere_10 10 rfl rfl)
theorem dX7_kindHere_279 : decode cX7_kindHere 279 = .ok (.getfield 76, 3) := dk_180 0 76 (dk_at dksX7_kindHere_10 11 rfl rfl)
theorem dX7_kindHere_282 : decode cX7_kindHere 282 = .ok (.invokespecial 113, 3) := dk_183 0 113 (dk_at dksX7_kindHere_10 14 rfl rfl)
theorem dX7_kindHere_285 : decode cX7_kindHere 285 = .ok (.athrow, 1) := dk_191 (dk_at dksX7_kindHere_10 17 rfl rfl)
theorem dX7_kindHere_286 : decode cX7_kindHere 286 = .ok (.ireturn, 1) := dk_172 (dk_at dksX7_kindHere_10 18 rfl rfl)
abbrev cX7_require : ByteArray := prog_11_method_8_code
def yX7_require : MethodName := ⟨RX7, "require", "(ZI)V"⟩
def dkwX7_require_0 : List UInt8 := [27, 154, 0, 16, 187, 0, 111, 89, 28, 42, 180, 0, 76, 183, 0, 113, 191, 177]
abbrev dktX7_require_0 : List UInt8 := dkwX7_require_0 ++ []
theorem dksX7_require_0 : cX7_require.data.toList.drop 0 = dktX7_require_0 := by decide +kernel
theorem dX7_require_0 : decode cX7_require 0 = .ok (.iload_n 1, 1) := dk_27 (dk_at dksX7_require_0 0 rfl rfl)
theorem dX7_require_1 : decode cX7_require 1 = .ok (.ifCond .ne 16, 3) := dk_154 0 16 (dk_at dksX7_require_0 1 rfl rfl)
theorem dX7_require_4 : decode cX7_require 4 = .ok (.new 111, 3) := dk_187 0 111 (dk_at dksX7_require_0 4 rfl rfl)
theorem dX7_require_7 : decode cX7_require 7 = .ok (.dup, 1) := dk_89 (dk_at dksX7_require_0 7 rfl rfl)
theorem dX7_require_8 : decode cX7_require 8 = .ok (.iload_n 2, 1) := dk_28 (dk_at dksX7_require_0 8 rfl rfl)
theorem dX7_require_9 : decode cX7_require 9 = .ok (.aload_n 0, 1) := dk_42 (dk_at dksX7_require_0 9 rfl rfl)
theorem dX7_require_10 : decode cX7_require 10 = .ok (.getfield 76, 3) := dk_180 0 76 (dk_at dksX7_require_0 10 rfl rfl)
theorem dX7_require_13 : decode cX7_require 13 = .ok (.invokespecial 113, 3) := dk_183 0 113 (dk_at dksX7_require_0 13 rfl rfl)
theorem dX7_require_16 : decode cX7_require 16 = .ok (.athrow, 1) := dk_191 (dk_at dksX7_require_0 16 rfl rfl)
theorem dX7_require_17 : decode cX7_require 17 = .ok (.return_, 1) := dk_177 (dk_at dksX7_require_0 17 rfl rfl)
abbrev cX7_posting : ByteArray := prog_11_method_29_code
def yX7_posting : MethodName := ⟨RX7, "posting", "(I)LFranchiseLedger$Posting;"⟩
def dkwX7_posting_4 : List UInt8 := [182, 1, 64, 167, 0, 15, 187, 1, 22, 89, 27, 2, 2, 2, 9, 183, 1, 29, 176]
abbrev dktX7_posting_4 : List UInt8 := dkwX7_posting_4 ++ []
def dkwX7_posting_3 : List UInt8 := [187, 1, 22, 89, 27, 2, 2, 2, 42, 4, 19, 1, 35, 182, 1, 25, 183, 1, 29, 167, 0, 22, 42]
abbrev dktX7_posting_3 : List UInt8 := dkwX7_posting_3 ++ dktX7_posting_4
def dkwX7_posting_2 : List UInt8 := [42, 182, 1, 54, 167, 0, 59, 42, 182, 1, 57, 167, 0, 52, 42, 27, 182, 1, 60, 167, 0, 44]
abbrev dktX7_posting_2 : List UInt8 := dkwX7_posting_2 ++ dktX7_posting_3
def dkwX7_posting_1 : List UInt8 := [170, 0, 0, 0, 0, 0, 90, 0, 0, 0, 0, 0, 0, 0, 5, 0, 0, 0, 39, 0, 0, 0, 46, 0, 0, 0, 53, 0, 0, 0, 53, 0, 0, 0, 61, 0, 0, 0, 83]
abbrev dktX7_posting_1 : List UInt8 := dkwX7_posting_1 ++ dktX7_posting_2
def dkwX7_posting_0 : List UInt8 := [42, 182, 0, 50, 27]
abbrev dktX7_posting_0 : List UInt8 := dkwX7_posting_0 ++ dktX7_posting_1
theorem dksX7_posting_0 : cX7_posting.data.toList.drop 0 = dktX7_posting_0 := by decide +kernel
theorem dksX7_posting_1 : cX7_posting.data.toList.drop 5 = dktX7_posting_1 := dk_seg dksX7_posting_0 5 rfl rfl
theorem dksX7_posting_2 : cX7_posting.data.toList.drop 44 = dktX7_posting_2 := dk_seg dksX7_posting_1 39 rfl rfl
theorem dksX7_posting_3 : cX7_posting.data.toList.drop 66 = dktX7_posting_3 := dk_seg dksX7_posting_2 22 rfl rfl
theorem dksX7_posting_4 : cX7_posting.data.toList.drop 89 = dktX7_posting_4 := dk_seg dksX7_posting_3 23 rfl rfl
theorem dX7_posting_0 : decode cX7_posting 0 = .ok (.aload_n 0, 1) := dk_42 (dk_at dksX7_posting_0 0 rfl rfl)
theorem dX7_posting_1 : decode cX7_posting 1 = .ok (.invokevirtual 50, 3) := dk_182 0 50 (dk_at dksX7_posting_0 1 rfl rfl)
theorem dX7_posting_4 : decode cX7_posting 4 = .ok (.iload_n 1, 1) := dk_27 (dk_at dksX7_posting_0 4 rfl rfl)
theorem dX7_posting_5 : decode cX7_posting 5 = .ok (.tableswitch 90 0 5 #[39, 46, 53, 53, 61, 83], 39) := by decide +kernel
theorem dX7_posting_44 : decode cX7_posting 44 = .ok (.aload_n 0, 1) := dk_42 (dk_at dksX7_posting_2 0 rfl rfl)
theorem dX7_posting_45 : decode cX7_posting 45 = .ok (.invokevirtual 310, 3) := dk_182 1 54 (dk_at dksX7_posting_2 1 rfl rfl)
theorem dX7_posting_48 : decode cX7_posting 48 = .ok (.goto 59, 3) := dk_167 0 59 (dk_at dksX7_posting_2 4 rfl rfl)
theorem dX7_posting_51 : decode cX7_posting 51 = .ok (.aload_n 0, 1) := dk_42 (dk_at dksX7_posting_2 7 rfl rfl)
theorem dX7_posting_52 : decode cX7_posting 52 = .ok (.invokevirtual 313, 3) := dk_182 1 57 (dk_at dksX7_posting_2 8 rfl rfl)
theorem dX7_posting_55 : decode cX7_posting 55 = .ok (.goto 52, 3) := dk_167 0 52 (dk_at dksX7_posting_2 11 rfl rfl)
theorem dX7_posting_58 : decode cX7_posting 58 = .ok (.aload_n 0, 1) := dk_42 (dk_at dksX7_posting_2 14 rfl rfl)
theorem dX7_posting_59 : decode cX7_posting 59 = .ok (.iload_n 1, 1) := dk_27 (dk_at dksX7_posting_2 15 rfl rfl)
theorem dX7_posting_60 : decode cX7_posting 60 = .ok (.invokevirtual 316, 3) := dk_182 1 60 (dk_at dksX7_posting_2 16 rfl rfl)
theorem dX7_posting_63 : decode cX7_posting 63 = .ok (.goto 44, 3) := dk_167 0 44 (dk_at dksX7_posting_2 19 rfl rfl)
theorem dX7_posting_66 : decode cX7_posting 66 = .ok (.new 278, 3) := dk_187 1 22 (dk_at dksX7_posting_3 0 rfl rfl)
theorem dX7_posting_69 : decode cX7_posting 69 = .ok (.dup, 1) := dk_89 (dk_at dksX7_posting_3 3 rfl rfl)
theorem dX7_posting_70 : decode cX7_posting 70 = .ok (.iload_n 1, 1) := dk_27 (dk_at dksX7_posting_3 4 rfl rfl)
theorem dX7_posting_71 : decode cX7_posting 71 = .ok (.iconst (-1), 1) := dk_2 (dk_at dksX7_posting_3 5 rfl rfl)
theorem dX7_posting_72 : decode cX7_posting 72 = .ok (.iconst (-1), 1) := dk_2 (dk_at dksX7_posting_3 6 rfl rfl)
theorem dX7_posting_73 : decode cX7_posting 73 = .ok (.iconst (-1), 1) := dk_2 (dk_at dksX7_posting_3 7 rfl rfl)
theorem dX7_posting_74 : decode cX7_posting 74 = .ok (.aload_n 0, 1) := dk_42 (dk_at dksX7_posting_3 8 rfl rfl)
theorem dX7_posting_75 : decode cX7_posting 75 = .ok (.iconst 1, 1) := dk_4 (dk_at dksX7_posting_3 9 rfl rfl)
theorem dX7_posting_76 : decode cX7_posting 76 = .ok (.ldc_w 291, 3) := dk_19 1 35 (dk_at dksX7_posting_3 10 rfl rfl)
theorem dX7_posting_79 : decode cX7_posting 79 = .ok (.invokevirtual 281, 3) := dk_182 1 25 (dk_at dksX7_posting_3 13 rfl rfl)
theorem dX7_posting_82 : decode cX7_posting 82 = .ok (.invokespecial 285, 3) := dk_183 1 29 (dk_at dksX7_posting_3 16 rfl rfl)
theorem dX7_posting_85 : decode cX7_posting 85 = .ok (.goto 22, 3) := dk_167 0 22 (dk_at dksX7_posting_3 19 rfl rfl)
theorem dX7_posting_88 : decode cX7_posting 88 = .ok (.aload_n 0, 1) := dk_42 (dk_at dksX7_posting_3 22 rfl rfl)
theorem dX7_posting_89 : decode cX7_posting 89 = .ok (.invokevirtual 320, 3) := dk_182 1 64 (dk_at dksX7_posting_4 0 rfl rfl)
theorem dX7_posting_92 : decode cX7_posting 92 = .ok (.goto 15, 3) := dk_167 0 15 (dk_at dksX7_posting_4 3 rfl rfl)
theorem dX7_posting_95 : decode cX7_posting 95 = .ok (.new 278, 3) := dk_187 1 22 (dk_at dksX7_posting_4 6 rfl rfl)
theorem dX7_posting_98 : decode cX7_posting 98 = .ok (.dup, 1) := dk_89 (dk_at dksX7_posting_4 9 rfl rfl)
theorem dX7_posting_99 : decode cX7_posting 99 = .ok (.iload_n 1, 1) := dk_27 (dk_at dksX7_posting_4 10 rfl rfl)
theorem dX7_posting_100 : decode cX7_posting 100 = .ok (.iconst (-1), 1) := dk_2 (dk_at dksX7_posting_4 11 rfl rfl)
theorem dX7_posting_101 : decode cX7_posting 101 = .ok (.iconst (-1), 1) := dk_2 (dk_at dksX7_posting_4 12 rfl rfl)
theorem dX7_posting_102 : decode cX7_posting 102 = .ok (.iconst (-1), 1) := dk_2 (dk_at dksX7_posting_4 13 rfl rfl)
theorem dX7_posting_103 : decode cX7_posting 103 = .ok (.lconst 0, 1) := dk_9 (dk_at dksX7_posting_4 14 rfl rfl)
theorem dX7_posting_104 : decode cX7_posting 104 = .ok (.invokespecial 285, 3) := dk_183 1 29 (dk_at dksX7_posting_4 15 rfl rfl)
theorem dX7_posting_107 : decode cX7_posting 107 = .ok (.areturn, 1) := dk_176 (dk_at dksX7_posting_4 18 rfl rfl)
abbrev cX7_sales : ByteArray := prog_11_method_24_code
def yX7_sales : MethodName := ⟨RX7, "sales", "()LFranchiseLedger$Posting;"⟩
def dkwX7_sales_1 : List UInt8 := [183, 1, 29, 176]
abbrev dktX7_sales_1 : List UInt8 := dkwX7_sales_1 ++ []
def dkwX7_sales_0 : List UInt8 := [42, 3, 16, 15, 182, 0, 164, 60, 187, 1, 22, 89, 3, 27, 2, 2, 42, 3, 19, 1, 24, 182, 1, 25]
abbrev dktX7_sales_0 : List UInt8 := dkwX7_sales_0 ++ dktX7_sales_1
theorem dksX7_sales_0 : cX7_sales.data.toList.drop 0 = dktX7_sales_0 := by decide +kernel
theorem dksX7_sales_1 : cX7_sales.data.toList.drop 24 = dktX7_sales_1 := dk_seg dksX7_sales_0 24 rfl rfl
theorem dX7_sales_0 : decode cX7_sales 0 = .ok (.aload_n 0, 1) := dk_42 (dk_at dksX7_sales_0 0 rfl rfl)
theorem dX7_sales_1 : decode cX7_sales 1 = .ok (.iconst 0, 1) := dk_3 (dk_at dksX7_sales_0 1 rfl rfl)
theorem dX7_sales_2 : decode cX7_sales 2 = .ok (.bipush 15, 2) := dk_16 15 (dk_at dksX7_sales_0 2 rfl rfl)
theorem dX7_sales_4 : decode cX7_sales 4 = .ok (.invokevirtual 164, 3) := dk_182 0 164 (dk_at dksX7_sales_0 4 rfl rfl)
theorem dX7_sales_7 : decode cX7_sales 7 = .ok (.istore_n 1, 1) := dk_60 (dk_at dksX7_sales_0 7 rfl rfl)
theorem dX7_sales_8 : decode cX7_sales 8 = .ok (.new 278, 3) := dk_187 1 22 (dk_at dksX7_sales_0 8 rfl rfl)
theorem dX7_sales_11 : decode cX7_sales 11 = .ok (.dup, 1) := dk_89 (dk_at dksX7_sales_0 11 rfl rfl)
theorem dX7_sales_12 : decode cX7_sales 12 = .ok (.iconst 0, 1) := dk_3 (dk_at dksX7_sales_0 12 rfl rfl)
theorem dX7_sales_13 : decode cX7_sales 13 = .ok (.iload_n 1, 1) := dk_27 (dk_at dksX7_sales_0 13 rfl rfl)
theorem dX7_sales_14 : decode cX7_sales 14 = .ok (.iconst (-1), 1) := dk_2 (dk_at dksX7_sales_0 14 rfl rfl)
theorem dX7_sales_15 : decode cX7_sales 15 = .ok (.iconst (-1), 1) := dk_2 (dk_at dksX7_sales_0 15 rfl rfl)
theorem dX7_sales_16 : decode cX7_sales 16 = .ok (.aload_n 0, 1) := dk_42 (dk_at dksX7_sales_0 16 rfl rfl)
theorem dX7_sales_17 : decode cX7_sales 17 = .ok (.iconst 0, 1) := dk_3 (dk_at dksX7_sales_0 17 rfl rfl)
theorem dX7_sales_18 : decode cX7_sales 18 = .ok (.ldc_w 280, 3) := dk_19 1 24 (dk_at dksX7_sales_0 18 rfl rfl)
theorem dX7_sales_21 : decode cX7_sales 21 = .ok (.invokevirtual 281, 3) := dk_182 1 25 (dk_at dksX7_sales_0 21 rfl rfl)
theorem dX7_sales_24 : decode cX7_sales 24 = .ok (.invokespecial 285, 3) := dk_183 1 29 (dk_at dksX7_sales_1 0 rfl rfl)
theorem dX7_sales_27 : decode cX7_sales 27 = .ok (.areturn, 1) := dk_176 (dk_at dksX7_sales_1 3 rfl rfl)
abbrev cX7_number : ByteArray := prog_11_method_10_code
def yX7_number : MethodName := ⟨RX7, "number", "(II)I"⟩
def dkwX7_number_0 : List UInt8 := [42, 27, 28, 182, 0, 120, 62, 42, 182, 0, 50, 29, 172]
abbrev dktX7_number_0 : List UInt8 := dkwX7_number_0 ++ []
theorem dksX7_number_0 : cX7_number.data.toList.drop 0 = dktX7_number_0 := by decide +kernel
theorem dX7_number_0 : decode cX7_number 0 = .ok (.aload_n 0, 1) := dk_42 (dk_at dksX7_number_0 0 rfl rfl)
theorem dX7_number_1 : decode cX7_number 1 = .ok (.iload_n 1, 1) := dk_27 (dk_at dksX7_number_0 1 rfl rfl)
theorem dX7_number_2 : decode cX7_number 2 = .ok (.iload_n 2, 1) := dk_28 (dk_at dksX7_number_0 2 rfl rfl)
theorem dX7_number_3 : decode cX7_number 3 = .ok (.invokevirtual 120, 3) := dk_182 0 120 (dk_at dksX7_number_0 3 rfl rfl)
theorem dX7_number_6 : decode cX7_number 6 = .ok (.istore_n 3, 1) := dk_62 (dk_at dksX7_number_0 6 rfl rfl)
theorem dX7_number_7 : decode cX7_number 7 = .ok (.aload_n 0, 1) := dk_42 (dk_at dksX7_number_0 7 rfl rfl)
theorem dX7_number_8 : decode cX7_number 8 = .ok (.invokevirtual 50, 3) := dk_182 0 50 (dk_at dksX7_number_0 8 rfl rfl)
theorem dX7_number_11 : decode cX7_number 11 = .ok (.iload_n 3, 1) := dk_29 (dk_at dksX7_number_0 11 rfl rfl)
theorem dX7_number_12 : decode cX7_number 12 = .ok (.ireturn, 1) := dk_172 (dk_at dksX7_number_0 12 rfl rfl)
abbrev cX7_figure : ByteArray := prog_11_method_9_code
def yX7_figure : MethodName := ⟨RX7, "figure", "(II)I"⟩
def dkwX7_figure_1 : List UInt8 := [27, 133, 28, 133, 184, 0, 68, 5, 182, 0, 116, 42, 180, 0, 108, 172]
abbrev dktX7_figure_1 : List UInt8 := dkwX7_figure_1 ++ []
def dkwX7_figure_0 : List UInt8 := [42, 42, 180, 0, 79, 5, 160, 0, 7, 4, 167, 0, 4, 3, 4, 182, 0, 116, 42, 42, 180, 0, 108, 133]
abbrev dktX7_figure_0 : List UInt8 := dkwX7_figure_0 ++ dktX7_figure_1
theorem dksX7_figure_0 : cX7_figure.data.toList.drop 0 = dktX7_figure_0 := by decide +kernel
theorem dksX7_figure_1 : cX7_figure.data.toList.drop 24 = dktX7_figure_1 := dk_seg dksX7_figure_0 24 rfl rfl
theorem dX7_figure_0 : decode cX7_figure 0 = .ok (.aload_n 0, 1) := dk_42 (dk_at dksX7_figure_0 0 rfl rfl)
theorem dX7_figure_1 : decode cX7_figure 1 = .ok (.aload_n 0, 1) := dk_42 (dk_at dksX7_figure_0 1 rfl rfl)
theorem dX7_figure_2 : decode cX7_figure 2 = .ok (.getfield 79, 3) := dk_180 0 79 (dk_at dksX7_figure_0 2 rfl rfl)
theorem dX7_figure_5 : decode cX7_figure 5 = .ok (.iconst 2, 1) := dk_5 (dk_at dksX7_figure_0 5 rfl rfl)
theorem dX7_figure_6 : decode cX7_figure 6 = .ok (.if_icmp .ne 7, 3) := dk_160 0 7 (dk_at dksX7_figure_0 6 rfl rfl)
theorem dX7_figure_9 : decode cX7_figure 9 = .ok (.iconst 1, 1) := dk_4 (dk_at dksX7_figure_0 9 rfl rfl)
theorem dX7_figure_10 : decode cX7_figure 10 = .ok (.goto 4, 3) := dk_167 0 4 (dk_at dksX7_figure_0 10 rfl rfl)
theorem dX7_figure_13 : decode cX7_figure 13 = .ok (.iconst 0, 1) := dk_3 (dk_at dksX7_figure_0 13 rfl rfl)
theorem dX7_figure_14 : decode cX7_figure 14 = .ok (.iconst 1, 1) := dk_4 (dk_at dksX7_figure_0 14 rfl rfl)
theorem dX7_figure_15 : decode cX7_figure 15 = .ok (.invokevirtual 116, 3) := dk_182 0 116 (dk_at dksX7_figure_0 15 rfl rfl)
theorem dX7_figure_18 : decode cX7_figure 18 = .ok (.aload_n 0, 1) := dk_42 (dk_at dksX7_figure_0 18 rfl rfl)
theorem dX7_figure_19 : decode cX7_figure 19 = .ok (.aload_n 0, 1) := dk_42 (dk_at dksX7_figure_0 19 rfl rfl)
theorem dX7_figure_20 : decode cX7_figure 20 = .ok (.getfield 108, 3) := dk_180 0 108 (dk_at dksX7_figure_0 20 rfl rfl)
theorem dX7_figure_23 : decode cX7_figure 23 = .ok (.i2l, 1) := dk_133 (dk_at dksX7_figure_0 23 rfl rfl)
theorem dX7_figure_24 : decode cX7_figure 24 = .ok (.iload_n 1, 1) := dk_27 (dk_at dksX7_figure_1 0 rfl rfl)
theorem dX7_figure_25 : decode cX7_figure 25 = .ok (.i2l, 1) := dk_133 (dk_at dksX7_figure_1 1 rfl rfl)
theorem dX7_figure_26 : decode cX7_figure 26 = .ok (.iload_n 2, 1) := dk_28 (dk_at dksX7_figure_1 2 rfl rfl)
theorem dX7_figure_27 : decode cX7_figure 27 = .ok (.i2l, 1) := dk_133 (dk_at dksX7_figure_1 3 rfl rfl)
theorem dX7_figure_28 : decode cX7_figure 28 = .ok (.invokestatic 68, 3) := dk_184 0 68 (dk_at dksX7_figure_1 4 rfl rfl)
theorem dX7_figure_31 : decode cX7_figure 31 = .ok (.iconst 2, 1) := dk_5 (dk_at dksX7_figure_1 7 rfl rfl)
theorem dX7_figure_32 : decode cX7_figure 32 = .ok (.invokevirtual 116, 3) := dk_182 0 116 (dk_at dksX7_figure_1 8 rfl rfl)
theorem dX7_figure_35 : decode cX7_figure 35 = .ok (.aload_n 0, 1) := dk_42 (dk_at dksX7_figure_1 11 rfl rfl)
theorem dX7_figure_36 : decode cX7_figure 36 = .ok (.getfield 108, 3) := dk_180 0 108 (dk_at dksX7_figure_1 12 rfl rfl)
theorem dX7_figure_39 : decode cX7_figure 39 = .ok (.ireturn, 1) := dk_172 (dk_at dksX7_figure_1 15 rfl rfl)
abbrev cX7_dollars : ByteArray := prog_11_method_23_code
def yX7_dollars : MethodName := ⟨RX7, "dollars", "(II)J"⟩
def dkwX7_dollars_0 : List UInt8 := [20, 0, 179, 42, 27, 28, 182, 0, 164, 133, 105, 173]
abbrev dktX7_dollars_0 : List UInt8 := dkwX7_dollars_0 ++ []
theorem dksX7_dollars_0 : cX7_dollars.data.toList.drop 0 = dktX7_dollars_0 := by decide +kernel
theorem dX7_dollars_0 : decode cX7_dollars 0 = .ok (.ldc2_w 179, 3) := dk_20 0 179 (dk_at dksX7_dollars_0 0 rfl rfl)
theorem dX7_dollars_3 : decode cX7_dollars 3 = .ok (.aload_n 0, 1) := dk_42 (dk_at dksX7_dollars_0 3 rfl rfl)
theorem dX7_dollars_4 : decode cX7_dollars 4 = .ok (.iload_n 1, 1) := dk_27 (dk_at dksX7_dollars_0 4 rfl rfl)
theorem dX7_dollars_5 : decode cX7_dollars 5 = .ok (.iload_n 2, 1) := dk_28 (dk_at dksX7_dollars_0 5 rfl rfl)
theorem dX7_dollars_6 : decode cX7_dollars 6 = .ok (.invokevirtual 164, 3) := dk_182 0 164 (dk_at dksX7_dollars_0 6 rfl rfl)
theorem dX7_dollars_9 : decode cX7_dollars 9 = .ok (.i2l, 1) := dk_133 (dk_at dksX7_dollars_0 9 rfl rfl)
theorem dX7_dollars_10 : decode cX7_dollars 10 = .ok (.lmul, 1) := dk_105 (dk_at dksX7_dollars_0 10 rfl rfl)
theorem dX7_dollars_11 : decode cX7_dollars 11 = .ok (.lreturn, 1) := dk_173 (dk_at dksX7_dollars_0 11 rfl rfl)
abbrev cX7_delivery : ByteArray := prog_11_method_25_code
def yX7_delivery : MethodName := ⟨RX7, "delivery", "()LFranchiseLedger$Posting;"⟩
def dkwX7_delivery_1 : List UInt8 := [187, 1, 22, 89, 4, 27, 28, 29, 42, 4, 19, 1, 24, 182, 1, 25, 183, 1, 29, 176]
abbrev dktX7_delivery_1 : List UInt8 := dkwX7_delivery_1 ++ []
def dkwX7_delivery_0 : List UInt8 := [42, 3, 16, 15, 182, 0, 164, 60, 42, 3, 16, 29, 182, 0, 164, 61, 42, 3, 16, 29, 182, 0, 164, 62]
abbrev dktX7_delivery_0 : List UInt8 := dkwX7_delivery_0 ++ dktX7_delivery_1
theorem dksX7_delivery_0 : cX7_delivery.data.toList.drop 0 = dktX7_delivery_0 := by decide +kernel
theorem dksX7_delivery_1 : cX7_delivery.data.toList.drop 24 = dktX7_delivery_1 := dk_seg dksX7_delivery_0 24 rfl rfl
theorem dX7_delivery_0 : decode cX7_delivery 0 = .ok (.aload_n 0, 1) := dk_42 (dk_at dksX7_delivery_0 0 rfl rfl)
theorem dX7_delivery_1 : decode cX7_delivery 1 = .ok (.iconst 0, 1) := dk_3 (dk_at dksX7_delivery_0 1 rfl rfl)
theorem dX7_delivery_2 : decode cX7_delivery 2 = .ok (.bipush 15, 2) := dk_16 15 (dk_at dksX7_delivery_0 2 rfl rfl)
theorem dX7_delivery_4 : decode cX7_delivery 4 = .ok (.invokevirtual 164, 3) := dk_182 0 164 (dk_at dksX7_delivery_0 4 rfl rfl)
theorem dX7_delivery_7 : decode cX7_delivery 7 = .ok (.istore_n 1, 1) := dk_60 (dk_at dksX7_delivery_0 7 rfl rfl)
theorem dX7_delivery_8 : decode cX7_delivery 8 = .ok (.aload_n 0, 1) := dk_42 (dk_at dksX7_delivery_0 8 rfl rfl)
theorem dX7_delivery_9 : decode cX7_delivery 9 = .ok (.iconst 0, 1) := dk_3 (dk_at dksX7_delivery_0 9 rfl rfl)
theorem dX7_delivery_10 : decode cX7_delivery 10 = .ok (.bipush 29, 2) := dk_16 29 (dk_at dksX7_delivery_0 10 rfl rfl)
theorem dX7_delivery_12 : decode cX7_delivery 12 = .ok (.invokevirtual 164, 3) := dk_182 0 164 (dk_at dksX7_delivery_0 12 rfl rfl)
theorem dX7_delivery_15 : decode cX7_delivery 15 = .ok (.istore_n 2, 1) := dk_61 (dk_at dksX7_delivery_0 15 rfl rfl)
theorem dX7_delivery_16 : decode cX7_delivery 16 = .ok (.aload_n 0, 1) := dk_42 (dk_at dksX7_delivery_0 16 rfl rfl)
theorem dX7_delivery_17 : decode cX7_delivery 17 = .ok (.iconst 0, 1) := dk_3 (dk_at dksX7_delivery_0 17 rfl rfl)
theorem dX7_delivery_18 : decode cX7_delivery 18 = .ok (.bipush 29, 2) := dk_16 29 (dk_at dksX7_delivery_0 18 rfl rfl)
theorem dX7_delivery_20 : decode cX7_delivery 20 = .ok (.invokevirtual 164, 3) := dk_182 0 164 (dk_at dksX7_delivery_0 20 rfl rfl)
theorem dX7_delivery_23 : decode cX7_delivery 23 = .ok (.istore_n 3, 1) := dk_62 (dk_at dksX7_delivery_0 23 rfl rfl)
theorem dX7_delivery_24 : decode cX7_delivery 24 = .ok (.new 278, 3) := dk_187 1 22 (dk_at dksX7_delivery_1 0 rfl rfl)
theorem dX7_delivery_27 : decode cX7_delivery 27 = .ok (.dup, 1) := dk_89 (dk_at dksX7_delivery_1 3 rfl rfl)
theorem dX7_delivery_28 : decode cX7_delivery 28 = .ok (.iconst 1, 1) := dk_4 (dk_at dksX7_delivery_1 4 rfl rfl)
theorem dX7_delivery_29 : decode cX7_delivery 29 = .ok (.iload_n 1, 1) := dk_27 (dk_at dksX7_delivery_1 5 rfl rfl)
theorem dX7_delivery_30 : decode cX7_delivery 30 = .ok (.iload_n 2, 1) := dk_28 (dk_at dksX7_delivery_1 6 rfl rfl)
theorem dX7_delivery_31 : decode cX7_delivery 31 = .ok (.iload_n 3, 1) := dk_29 (dk_at dksX7_delivery_1 7 rfl rfl)
theorem dX7_delivery_32 : decode cX7_delivery 32 = .ok (.aload_n 0, 1) := dk_42 (dk_at dksX7_delivery_1 8 rfl rfl)
theorem dX7_delivery_33 : decode cX7_delivery 33 = .ok (.iconst 1, 1) := dk_4 (dk_at dksX7_delivery_1 9 rfl rfl)
theorem dX7_delivery_34 : decode cX7_delivery 34 = .ok (.ldc_w 280, 3) := dk_19 1 24 (dk_at dksX7_delivery_1 10 rfl rfl)
theorem dX7_delivery_37 : decode cX7_delivery 37 = .ok (.invokevirtual 281, 3) := dk_182 1 25 (dk_at dksX7_delivery_1 13 rfl rfl)
theorem dX7_delivery_40 : decode cX7_delivery 40 = .ok (.invokespecial 285, 3) := dk_183 1 29 (dk_at dksX7_delivery_1 16 rfl rfl)
theorem dX7_delivery_43 : decode cX7_delivery 43 = .ok (.areturn, 1) := dk_176 (dk_at dksX7_delivery_1 19 rfl rfl)
abbrev cX7_toFranchisee : ByteArray := prog_11_method_26_code
def yX7_toFranchisee : MethodName := ⟨RX7, "toFranchisee", "(I)LFranchiseLedger$Posting;"⟩
def dkwX7_toFranchisee_1 : List UInt8 := [19, 1, 35, 182, 1, 25, 183, 1, 29, 176]
abbrev dktX7_toFranchisee_1 : List UInt8 := dkwX7_toFranchisee_1 ++ []
def dkwX7_toFranchisee_0 : List UInt8 := [42, 42, 180, 0, 3, 180, 1, 32, 182, 0, 197, 61, 187, 1, 22, 89, 27, 28, 2, 2, 42, 4]
abbrev dktX7_toFranchisee_0 : List UInt8 := dkwX7_toFranchisee_0 ++ dktX7_toFranchisee_1
theorem dksX7_toFranchisee_0 : cX7_toFranchisee.data.toList.drop 0 = dktX7_toFranchisee_0 := by decide +kernel
theorem dksX7_toFranchisee_1 : cX7_toFranchisee.data.toList.drop 22 = dktX7_toFranchisee_1 := dk_seg dksX7_toFranchisee_0 22 rfl rfl
theorem dX7_toFranchisee_0 : decode cX7_toFranchisee 0 = .ok (.aload_n 0, 1) := dk_42 (dk_at dksX7_toFranchisee_0 0 rfl rfl)
theorem dX7_toFranchisee_1 : decode cX7_toFranchisee 1 = .ok (.aload_n 0, 1) := dk_42 (dk_at dksX7_toFranchisee_0 1 rfl rfl)
theorem dX7_toFranchisee_2 : decode cX7_toFranchisee 2 = .ok (.getfield 3, 3) := dk_180 0 3 (dk_at dksX7_toFranchisee_0 2 rfl rfl)
theorem dX7_toFranchisee_5 : decode cX7_toFranchisee 5 = .ok (.getfield 288, 3) := dk_180 1 32 (dk_at dksX7_toFranchisee_0 5 rfl rfl)
theorem dX7_toFranchisee_8 : decode cX7_toFranchisee 8 = .ok (.invokevirtual 197, 3) := dk_182 0 197 (dk_at dksX7_toFranchisee_0 8 rfl rfl)
theorem dX7_toFranchisee_11 : decode cX7_toFranchisee 11 = .ok (.istore_n 2, 1) := dk_61 (dk_at dksX7_toFranchisee_0 11 rfl rfl)
theorem dX7_toFranchisee_12 : decode cX7_toFranchisee 12 = .ok (.new 278, 3) := dk_187 1 22 (dk_at dksX7_toFranchisee_0 12 rfl rfl)
theorem dX7_toFranchisee_15 : decode cX7_toFranchisee 15 = .ok (.dup, 1) := dk_89 (dk_at dksX7_toFranchisee_0 15 rfl rfl)
theorem dX7_toFranchisee_16 : decode cX7_toFranchisee 16 = .ok (.iload_n 1, 1) := dk_27 (dk_at dksX7_toFranchisee_0 16 rfl rfl)
theorem dX7_toFranchisee_17 : decode cX7_toFranchisee 17 = .ok (.iload_n 2, 1) := dk_28 (dk_at dksX7_toFranchisee_0 17 rfl rfl)
theorem dX7_toFranchisee_18 : decode cX7_toFranchisee 18 = .ok (.iconst (-1), 1) := dk_2 (dk_at dksX7_toFranchisee_0 18 rfl rfl)
theorem dX7_toFranchisee_19 : decode cX7_toFranchisee 19 = .ok (.iconst (-1), 1) := dk_2 (dk_at dksX7_toFranchisee_0 19 rfl rfl)
theorem dX7_toFranchisee_20 : decode cX7_toFranchisee 20 = .ok (.aload_n 0, 1) := dk_42 (dk_at dksX7_toFranchisee_0 20 rfl rfl)
theorem dX7_toFranchisee_21 : decode cX7_toFranchisee 21 = .ok (.iconst 1, 1) := dk_4 (dk_at dksX7_toFranchisee_0 21 rfl rfl)
theorem dX7_toFranchisee_22 : decode cX7_toFranchisee 22 = .ok (.ldc_w 291, 3) := dk_19 1 35 (dk_at dksX7_toFranchisee_1 0 rfl rfl)
theorem dX7_toFranchisee_25 : decode cX7_toFranchisee 25 = .ok (.invokevirtual 281, 3) := dk_182 1 25 (dk_at dksX7_toFranchisee_1 3 rfl rfl)
theorem dX7_toFranchisee_28 : decode cX7_toFranchisee 28 = .ok (.invokespecial 285, 3) := dk_183 1 29 (dk_at dksX7_toFranchisee_1 6 rfl rfl)
theorem dX7_toFranchisee_31 : decode cX7_toFranchisee 31 = .ok (.areturn, 1) := dk_176 (dk_at dksX7_toFranchisee_1 9 rfl rfl)
abbrev cX7_namedIn : ByteArray := prog_11_method_15_code
def yX7_namedIn : MethodName := ⟨RX7, "namedIn", "(LFranchiseLedger$Rules;)I"⟩
def dkwX7_namedIn_2 : List UInt8 := [182, 0, 116, 42, 182, 0, 50, 28, 172]
abbrev dktX7_namedIn_2 : List UInt8 := dkwX7_namedIn_2 ++ []
def dkwX7_namedIn_1 : List UInt8 := [182, 0, 116, 43, 42, 180, 0, 33, 182, 0, 187, 61, 42, 28, 2, 159, 0, 7, 4, 167, 0, 4, 3, 6]
abbrev dktX7_namedIn_1 : List UInt8 := dkwX7_namedIn_1 ++ dktX7_namedIn_2
def dkwX7_namedIn_0 : List UInt8 := [42, 42, 180, 0, 79, 4, 160, 0, 14, 42, 182, 0, 184, 154, 0, 7, 4, 167, 0, 4, 3, 4]
abbrev dktX7_namedIn_0 : List UInt8 := dkwX7_namedIn_0 ++ dktX7_namedIn_1
theorem dksX7_namedIn_0 : cX7_namedIn.data.toList.drop 0 = dktX7_namedIn_0 := by decide +kernel
theorem dksX7_namedIn_1 : cX7_namedIn.data.toList.drop 22 = dktX7_namedIn_1 := dk_seg dksX7_namedIn_0 22 rfl rfl
theorem dksX7_namedIn_2 : cX7_namedIn.data.toList.drop 46 = dktX7_namedIn_2 := dk_seg dksX7_namedIn_1 24 rfl rfl
theorem dX7_namedIn_0 : decode cX7_namedIn 0 = .ok (.aload_n 0, 1) := dk_42 (dk_at dksX7_namedIn_0 0 rfl rfl)
theorem dX7_namedIn_1 : decode cX7_namedIn 1 = .ok (.aload_n 0, 1) := dk_42 (dk_at dksX7_namedIn_0 1 rfl rfl)
theorem dX7_namedIn_2 : decode cX7_namedIn 2 = .ok (.getfield 79, 3) := dk_180 0 79 (dk_at dksX7_namedIn_0 2 rfl rfl)
theorem dX7_namedIn_5 : decode cX7_namedIn 5 = .ok (.iconst 1, 1) := dk_4 (dk_at dksX7_namedIn_0 5 rfl rfl)
theorem dX7_namedIn_6 : decode cX7_namedIn 6 = .ok (.if_icmp .ne 14, 3) := dk_160 0 14 (dk_at dksX7_namedIn_0 6 rfl rfl)
theorem dX7_namedIn_9 : decode cX7_namedIn 9 = .ok (.aload_n 0, 1) := dk_42 (dk_at dksX7_namedIn_0 9 rfl rfl)
theorem dX7_namedIn_10 : decode cX7_namedIn 10 = .ok (.invokevirtual 184, 3) := dk_182 0 184 (dk_at dksX7_namedIn_0 10 rfl rfl)
theorem dX7_namedIn_13 : decode cX7_namedIn 13 = .ok (.ifCond .ne 7, 3) := dk_154 0 7 (dk_at dksX7_namedIn_0 13 rfl rfl)
theorem dX7_namedIn_16 : decode cX7_namedIn 16 = .ok (.iconst 1, 1) := dk_4 (dk_at dksX7_namedIn_0 16 rfl rfl)
theorem dX7_namedIn_17 : decode cX7_namedIn 17 = .ok (.goto 4, 3) := dk_167 0 4 (dk_at dksX7_namedIn_0 17 rfl rfl)
theorem dX7_namedIn_20 : decode cX7_namedIn 20 = .ok (.iconst 0, 1) := dk_3 (dk_at dksX7_namedIn_0 20 rfl rfl)
theorem dX7_namedIn_21 : decode cX7_namedIn 21 = .ok (.iconst 1, 1) := dk_4 (dk_at dksX7_namedIn_0 21 rfl rfl)
theorem dX7_namedIn_22 : decode cX7_namedIn 22 = .ok (.invokevirtual 116, 3) := dk_182 0 116 (dk_at dksX7_namedIn_1 0 rfl rfl)
theorem dX7_namedIn_25 : decode cX7_namedIn 25 = .ok (.aload_n 1, 1) := dk_43 (dk_at dksX7_namedIn_1 3 rfl rfl)
theorem dX7_namedIn_26 : decode cX7_namedIn 26 = .ok (.aload_n 0, 1) := dk_42 (dk_at dksX7_namedIn_1 4 rfl rfl)
theorem dX7_namedIn_27 : decode cX7_namedIn 27 = .ok (.getfield 33, 3) := dk_180 0 33 (dk_at dksX7_namedIn_1 5 rfl rfl)
theorem dX7_namedIn_30 : decode cX7_namedIn 30 = .ok (.invokevirtual 187, 3) := dk_182 0 187 (dk_at dksX7_namedIn_1 8 rfl rfl)
theorem dX7_namedIn_33 : decode cX7_namedIn 33 = .ok (.istore_n 2, 1) := dk_61 (dk_at dksX7_namedIn_1 11 rfl rfl)
theorem dX7_namedIn_34 : decode cX7_namedIn 34 = .ok (.aload_n 0, 1) := dk_42 (dk_at dksX7_namedIn_1 12 rfl rfl)
theorem dX7_namedIn_35 : decode cX7_namedIn 35 = .ok (.iload_n 2, 1) := dk_28 (dk_at dksX7_namedIn_1 13 rfl rfl)
theorem dX7_namedIn_36 : decode cX7_namedIn 36 = .ok (.iconst (-1), 1) := dk_2 (dk_at dksX7_namedIn_1 14 rfl rfl)
theorem dX7_namedIn_37 : decode cX7_namedIn 37 = .ok (.if_icmp .eq 7, 3) := dk_159 0 7 (dk_at dksX7_namedIn_1 15 rfl rfl)
theorem dX7_namedIn_40 : decode cX7_namedIn 40 = .ok (.iconst 1, 1) := dk_4 (dk_at dksX7_namedIn_1 18 rfl rfl)
theorem dX7_namedIn_41 : decode cX7_namedIn 41 = .ok (.goto 4, 3) := dk_167 0 4 (dk_at dksX7_namedIn_1 19 rfl rfl)
theorem dX7_namedIn_44 : decode cX7_namedIn 44 = .ok (.iconst 0, 1) := dk_3 (dk_at dksX7_namedIn_1 22 rfl rfl)
theorem dX7_namedIn_45 : decode cX7_namedIn 45 = .ok (.iconst 3, 1) := dk_6 (dk_at dksX7_namedIn_1 23 rfl rfl)
theorem dX7_namedIn_46 : decode cX7_namedIn 46 = .ok (.invokevirtual 116, 3) := dk_182 0 116 (dk_at dksX7_namedIn_2 0 rfl rfl)
theorem dX7_namedIn_49 : decode cX7_namedIn 49 = .ok (.aload_n 0, 1) := dk_42 (dk_at dksX7_namedIn_2 3 rfl rfl)
theorem dX7_namedIn_50 : decode cX7_namedIn 50 = .ok (.invokevirtual 50, 3) := dk_182 0 50 (dk_at dksX7_namedIn_2 4 rfl rfl)
theorem dX7_namedIn_53 : decode cX7_namedIn 53 = .ok (.iload_n 2, 1) := dk_28 (dk_at dksX7_namedIn_2 7 rfl rfl)
theorem dX7_namedIn_54 : decode cX7_namedIn 54 = .ok (.ireturn, 1) := dk_172 (dk_at dksX7_namedIn_2 8 rfl rfl)
abbrev cX7_isReserved : ByteArray := prog_11_method_11_code
def yX7_isReserved : MethodName := ⟨RX7, "isReserved", "()Z"⟩
def dkwX7_isReserved_10 : List UInt8 := [4, 167, 0, 4, 3, 172]
abbrev dktX7_isReserved_10 : List UInt8 := dkwX7_isReserved_10 ++ []
def dkwX7_isReserved_9 : List UInt8 := [170, 0, 0, 0, 0, 58, 0, 0, 0, 0, 0, 0, 0, 9, 0, 0, 0, 54, 0, 0, 0, 54, 0, 0, 0, 54, 0, 0, 0, 54, 0, 0, 0, 54, 0, 0, 0, 54, 0, 0, 0, 54, 0, 0, 0, 54, 0, 0, 0, 54, 0, 0, 0, 54]
abbrev dktX7_isReserved_9 : List UInt8 := dkwX7_isReserved_9 ++ dktX7_isReserved_10
def dkwX7_isReserved_8 : List UInt8 := [28]
abbrev dktX7_isReserved_8 : List UInt8 := dkwX7_isReserved_8 ++ dktX7_isReserved_9
def dkwX7_isReserved_7 : List UInt8 := [182, 0, 131, 153, 0, 21, 16, 8, 61, 167, 0, 15, 43, 18, 151, 182, 0, 131, 153, 0, 6, 16, 9, 61]
abbrev dktX7_isReserved_7 : List UInt8 := dkwX7_isReserved_7 ++ dktX7_isReserved_8
def dkwX7_isReserved_6 : List UInt8 := [61, 167, 0, 45, 43, 18, 147, 182, 0, 131, 153, 0, 36, 16, 7, 61, 167, 0, 30, 43, 18, 149]
abbrev dktX7_isReserved_6 : List UInt8 := dkwX7_isReserved_6 ++ dktX7_isReserved_7
def dkwX7_isReserved_5 : List UInt8 := [18, 143, 182, 0, 131, 153, 0, 65, 8, 61, 167, 0, 60, 43, 18, 145, 182, 0, 131, 153, 0, 51, 16, 6]
abbrev dktX7_isReserved_5 : List UInt8 := dkwX7_isReserved_5 ++ dktX7_isReserved_6
def dkwX7_isReserved_4 : List UInt8 := [153, 0, 93, 6, 61, 167, 0, 88, 43, 18, 141, 182, 0, 131, 153, 0, 79, 7, 61, 167, 0, 74, 43]
abbrev dktX7_isReserved_4 : List UInt8 := dkwX7_isReserved_4 ++ dktX7_isReserved_5
def dkwX7_isReserved_3 : List UInt8 := [61, 167, 0, 116, 43, 18, 137, 182, 0, 131, 153, 0, 107, 5, 61, 167, 0, 102, 43, 18, 139, 182, 0, 131]
abbrev dktX7_isReserved_3 : List UInt8 := dkwX7_isReserved_3 ++ dktX7_isReserved_4
def dkwX7_isReserved_2 : List UInt8 := [43, 18, 129, 182, 0, 131, 153, 0, 135, 3, 61, 167, 0, 130, 43, 18, 135, 182, 0, 131, 153, 0, 121, 4]
abbrev dktX7_isReserved_2 : List UInt8 := dkwX7_isReserved_2 ++ dktX7_isReserved_3
def dkwX7_isReserved_1 : List UInt8 := [171, 0, 0, 0, 230, 0, 0, 0, 10, 175, 101, 170, 249, 0, 0, 0, 145, 196, 17, 8, 13, 0, 0, 0, 131, 0, 1, 139, 134, 0, 0, 0, 188, 0, 45, 208, 141, 0, 0, 0, 117, 0, 52, 139, 41, 0, 0, 0, 89, 5, 134, 3, 79, 0, 0, 0, 173, 5, 176, 185, 131, 0, 0, 0, 203, 6, 193, 28, 142, 0, 0, 0, 218, 33, 214, 192, 104, 0, 0, 0, 103, 33, 255, 167, 42, 0, 0, 0, 159]
abbrev dktX7_isReserved_1 : List UInt8 := dkwX7_isReserved_1 ++ dktX7_isReserved_2
def dkwX7_isReserved_0 : List UInt8 := [42, 180, 0, 33, 76, 2, 61, 43, 182, 0, 124]
abbrev dktX7_isReserved_0 : List UInt8 := dkwX7_isReserved_0 ++ dktX7_isReserved_1
theorem dksX7_isReserved_0 : cX7_isReserved.data.toList.drop 0 = dktX7_isReserved_0 := by decide +kernel
theorem dksX7_isReserved_1 : cX7_isReserved.data.toList.drop 11 = dktX7_isReserved_1 := dk_seg dksX7_isReserved_0 11 rfl rfl
theorem dksX7_isReserved_2 : cX7_isReserved.data.toList.drop 100 = dktX7_isReserved_2 := dk_seg dksX7_isReserved_1 89 rfl rfl
theorem dksX7_isReserved_3 : cX7_isReserved.data.toList.drop 124 = dktX7_isReserved_3 := dk_seg dksX7_isReserved_2 24 rfl rfl
theorem dksX7_isReserved_4 : cX7_isReserved.data.toList.drop 148 = dktX7_isReserved_4 := dk_seg dksX7_isReserved_3 24 rfl rfl
theorem dksX7_isReserved_5 : cX7_isReserved.data.toList.drop 171 = dktX7_isReserved_5 := dk_seg dksX7_isReserved_4 23 rfl rfl
theorem dksX7_isReserved_6 : cX7_isReserved.data.toList.drop 195 = dktX7_isReserved_6 := dk_seg dksX7_isReserved_5 24 rfl rfl
theorem dksX7_isReserved_7 : cX7_isReserved.data.toList.drop 217 = dktX7_isReserved_7 := dk_seg dksX7_isReserved_6 22 rfl rfl
theorem dksX7_isReserved_8 : cX7_isReserved.data.toList.drop 241 = dktX7_isReserved_8 := dk_seg dksX7_isReserved_7 24 rfl rfl
theorem dksX7_isReserved_9 : cX7_isReserved.data.toList.drop 242 = dktX7_isReserved_9 := dk_seg dksX7_isReserved_8 1 rfl rfl
theorem dksX7_isReserved_10 : cX7_isReserved.data.toList.drop 296 = dktX7_isReserved_10 := dk_seg dksX7_isReserved_9 54 rfl rfl
theorem dX7_isReserved_0 : decode cX7_isReserved 0 = .ok (.aload_n 0, 1) := dk_42 (dk_at dksX7_isReserved_0 0 rfl rfl)
theorem dX7_isReserved_1 : decode cX7_isReserved 1 = .ok (.getfield 33, 3) := dk_180 0 33 (dk_at dksX7_isReserved_0 1 rfl rfl)
theorem dX7_isReserved_4 : decode cX7_isReserved 4 = .ok (.astore_n 1, 1) := dk_76 (dk_at dksX7_isReserved_0 4 rfl rfl)
theorem dX7_isReserved_5 : decode cX7_isReserved 5 = .ok (.iconst (-1), 1) := dk_2 (dk_at dksX7_isReserved_0 5 rfl rfl)
theorem dX7_isReserved_6 : decode cX7_isReserved 6 = .ok (.istore_n 2, 1) := dk_61 (dk_at dksX7_isReserved_0 6 rfl rfl)
theorem dX7_isReserved_7 : decode cX7_isReserved 7 = .ok (.aload_n 1, 1) := dk_43 (dk_at dksX7_isReserved_0 7 rfl rfl)
theorem dX7_isReserved_8 : decode cX7_isReserved 8 = .ok (.invokevirtual 124, 3) := dk_182 0 124 (dk_at dksX7_isReserved_0 8 rfl rfl)
theorem dX7_isReserved_11 : decode cX7_isReserved 11 = .ok (.lookupswitch 230 #[(-1352291591, 145), (-1005516787, 131), (101254, 188), (3002509, 117), (3443497, 89), (92668751, 173), (95467907, 203), (113319054, 218), (567722088, 103), (570402602, 159)], 89) := by decide +kernel
theorem dX7_isReserved_100 : decode cX7_isReserved 100 = .ok (.aload_n 1, 1) := dk_43 (dk_at dksX7_isReserved_2 0 rfl rfl)
theorem dX7_isReserved_101 : decode cX7_isReserved 101 = .ok (.ldc 129, 2) := dk_18 129 (dk_at dksX7_isReserved_2 1 rfl rfl)
theorem dX7_isReserved_103 : decode cX7_isReserved 103 = .ok (.invokevirtual 131, 3) := dk_182 0 131 (dk_at dksX7_isReserved_2 3 rfl rfl)
theorem dX7_isReserved_106 : decode cX7_isReserved 106 = .ok (.ifCond .eq 135, 3) := dk_153 0 135 (dk_at dksX7_isReserved_2 6 rfl rfl)
theorem dX7_isReserved_109 : decode cX7_isReserved 109 = .ok (.iconst 0, 1) := dk_3 (dk_at dksX7_isReserved_2 9 rfl rfl)
theorem dX7_isReserved_110 : decode cX7_isReserved 110 = .ok (.istore_n 2, 1) := dk_61 (dk_at dksX7_isReserved_2 10 rfl rfl)
theorem dX7_isReserved_111 : decode cX7_isReserved 111 = .ok (.goto 130, 3) := dk_167 0 130 (dk_at dksX7_isReserved_2 11 rfl rfl)
theorem dX7_isReserved_114 : decode cX7_isReserved 114 = .ok (.aload_n 1, 1) := dk_43 (dk_at dksX7_isReserved_2 14 rfl rfl)
theorem dX7_isReserved_115 : decode cX7_isReserved 115 = .ok (.ldc 135, 2) := dk_18 135 (dk_at dksX7_isReserved_2 15 rfl rfl)
theorem dX7_isReserved_117 : decode cX7_isReserved 117 = .ok (.invokevirtual 131, 3) := dk_182 0 131 (dk_at dksX7_isReserved_2 17 rfl rfl)
theorem dX7_isReserved_120 : decode cX7_isReserved 120 = .ok (.ifCond .eq 121, 3) := dk_153 0 121 (dk_at dksX7_isReserved_2 20 rfl rfl)
theorem dX7_isReserved_123 : decode cX7_isReserved 123 = .ok (.iconst 1, 1) := dk_4 (dk_at dksX7_isReserved_2 23 rfl rfl)
theorem dX7_isReserved_124 : decode cX7_isReserved 124 = .ok (.istore_n 2, 1) := dk_61 (dk_at dksX7_isReserved_3 0 rfl rfl)
theorem dX7_isReserved_125 : decode cX7_isReserved 125 = .ok (.goto 116, 3) := dk_167 0 116 (dk_at dksX7_isReserved_3 1 rfl rfl)
theorem dX7_isReserved_128 : decode cX7_isReserved 128 = .ok (.aload_n 1, 1) := dk_43 (dk_at dksX7_isReserved_3 4 rfl rfl)
theorem dX7_isReserved_129 : decode cX7_isReserved 129 = .ok (.ldc 137, 2) := dk_18 137 (dk_at dksX7_isReserved_3 5 rfl rfl)
theorem dX7_isReserved_131 : decode cX7_isReserved 131 = .ok (.invokevirtual 131, 3) := dk_182 0 131 (dk_at dksX7_isReserved_3 7 rfl rfl)
theorem dX7_isReserved_134 : decode cX7_isReserved 134 = .ok (.ifCond .eq 107, 3) := dk_153 0 107 (dk_at dksX7_isReserved_3 10 rfl rfl)
theorem dX7_isReserved_137 : decode cX7_isReserved 137 = .ok (.iconst 2, 1) := dk_5 (dk_at dksX7_isReserved_3 13 rfl rfl)
theorem dX7_isReserved_138 : decode cX7_isReserved 138 = .ok (.istore_n 2, 1) := dk_61 (dk_at dksX7_isReserved_3 14 rfl rfl)
theorem dX7_isReserved_139 : decode cX7_isReserved 139 = .ok (.goto 102, 3) := dk_167 0 102 (dk_at dksX7_isReserved_3 15 rfl rfl)
theorem dX7_isReserved_142 : decode cX7_isReserved 142 = .ok (.aload_n 1, 1) := dk_43 (dk_at dksX7_isReserved_3 18 rfl rfl)
theorem dX7_isReserved_143 : decode cX7_isReserved 143 = .ok (.ldc 139, 2) := dk_18 139 (dk_at dksX7_isReserved_3 19 rfl rfl)
theorem dX7_isReserved_145 : decode cX7_isReserved 145 = .ok (.invokevirtual 131, 3) := dk_182 0 131 (dk_at dksX7_isReserved_3 21 rfl rfl)
theorem dX7_isReserved_148 : decode cX7_isReserved 148 = .ok (.ifCond .eq 93, 3) := dk_153 0 93 (dk_at dksX7_isReserved_4 0 rfl rfl)
theorem dX7_isReserved_151 : decode cX7_isReserved 151 = .ok (.iconst 3, 1) := dk_6 (dk_at dksX7_isReserved_4 3 rfl rfl)
theorem dX7_isReserved_152 : decode cX7_isReserved 152 = .ok (.istore_n 2, 1) := dk_61 (dk_at dksX7_isReserved_4 4 rfl rfl)
theorem dX7_isReserved_153 : decode cX7_isReserved 153 = .ok (.goto 88, 3) := dk_167 0 88 (dk_at dksX7_isReserved_4 5 rfl rfl)
theorem dX7_isReserved_156 : decode cX7_isReserved 156 = .ok (.aload_n 1, 1) := dk_43 (dk_at dksX7_isReserved_4 8 rfl rfl)
theorem dX7_isReserved_157 : decode cX7_isReserved 157 = .ok (.ldc 141, 2) := dk_18 141 (dk_at dksX7_isReserved_4 9 rfl rfl)
theorem dX7_isReserved_159 : decode cX7_isReserved 159 = .ok (.invokevirtual 131, 3) := dk_182 0 131 (dk_at dksX7_isReserved_4 11 rfl rfl)
theorem dX7_isReserved_162 : decode cX7_isReserved 162 = .ok (.ifCond .eq 79, 3) := dk_153 0 79 (dk_at dksX7_isReserved_4 14 rfl rfl)
theorem dX7_isReserved_165 : decode cX7_isReserved 165 = .ok (.iconst 4, 1) := dk_7 (dk_at dksX7_isReserved_4 17 rfl rfl)
theorem dX7_isReserved_166 : decode cX7_isReserved 166 = .ok (.istore_n 2, 1) := dk_61 (dk_at dksX7_isReserved_4 18 rfl rfl)
theorem dX7_isReserved_167 : decode cX7_isReserved 167 = .ok (.goto 74, 3) := dk_167 0 74 (dk_at dksX7_isReserved_4 19 rfl rfl)
theorem dX7_isReserved_170 : decode cX7_isReserved 170 = .ok (.aload_n 1, 1) := dk_43 (dk_at dksX7_isReserved_4 22 rfl rfl)
theorem dX7_isReserved_171 : decode cX7_isReserved 171 = .ok (.ldc 143, 2) := dk_18 143 (dk_at dksX7_isReserved_5 0 rfl rfl)
theorem dX7_isReserved_173 : decode cX7_isReserved 173 = .ok (.invokevirtual 131, 3) := dk_182 0 131 (dk_at dksX7_isReserved_5 2 rfl rfl)
theorem dX7_isReserved_176 : decode cX7_isReserved 176 = .ok (.ifCond .eq 65, 3) := dk_153 0 65 (dk_at dksX7_isReserved_5 5 rfl rfl)
theorem dX7_isReserved_179 : decode cX7_isReserved 179 = .ok (.iconst 5, 1) := dk_8 (dk_at dksX7_isReserved_5 8 rfl rfl)
theorem dX7_isReserved_180 : decode cX7_isReserved 180 = .ok (.istore_n 2, 1) := dk_61 (dk_at dksX7_isReserved_5 9 rfl rfl)
theorem dX7_isReserved_181 : decode cX7_isReserved 181 = .ok (.goto 60, 3) := dk_167 0 60 (dk_at dksX7_isReserved_5 10 rfl rfl)
theorem dX7_isReserved_184 : decode cX7_isReserved 184 = .ok (.aload_n 1, 1) := dk_43 (dk_at dksX7_isReserved_5 13 rfl rfl)
theorem dX7_isReserved_185 : decode cX7_isReserved 185 = .ok (.ldc 145, 2) := dk_18 145 (dk_at dksX7_isReserved_5 14 rfl rfl)
theorem dX7_isReserved_187 : decode cX7_isReserved 187 = .ok (.invokevirtual 131, 3) := dk_182 0 131 (dk_at dksX7_isReserved_5 16 rfl rfl)
theorem dX7_isReserved_190 : decode cX7_isReserved 190 = .ok (.ifCond .eq 51, 3) := dk_153 0 51 (dk_at dksX7_isReserved_5 19 rfl rfl)
theorem dX7_isReserved_193 : decode cX7_isReserved 193 = .ok (.bipush 6, 2) := dk_16 6 (dk_at dksX7_isReserved_5 22 rfl rfl)
theorem dX7_isReserved_195 : decode cX7_isReserved 195 = .ok (.istore_n 2, 1) := dk_61 (dk_at dksX7_isReserved_6 0 rfl rfl)
theorem dX7_isReserved_196 : decode cX7_isReserved 196 = .ok (.goto 45, 3) := dk_167 0 45 (dk_at dksX7_isReserved_6 1 rfl rfl)
theorem dX7_isReserved_199 : decode cX7_isReserved 199 = .ok (.aload_n 1, 1) := dk_43 (dk_at dksX7_isReserved_6 4 rfl rfl)
theorem dX7_isReserved_200 : decode cX7_isReserved 200 = .ok (.ldc 147, 2) := dk_18 147 (dk_at dksX7_isReserved_6 5 rfl rfl)
theorem dX7_isReserved_202 : decode cX7_isReserved 202 = .ok (.invokevirtual 131, 3) := dk_182 0 131 (dk_at dksX7_isReserved_6 7 rfl rfl)
theorem dX7_isReserved_205 : decode cX7_isReserved 205 = .ok (.ifCond .eq 36, 3) := dk_153 0 36 (dk_at dksX7_isReserved_6 10 rfl rfl)
theorem dX7_isReserved_208 : decode cX7_isReserved 208 = .ok (.bipush 7, 2) := dk_16 7 (dk_at dksX7_isReserved_6 13 rfl rfl)
theorem dX7_isReserved_210 : decode cX7_isReserved 210 = .ok (.istore_n 2, 1) := dk_61 (dk_at dksX7_isReserved_6 15 rfl rfl)
theorem dX7_isReserved_211 : decode cX7_isReserved 211 = .ok (.goto 30, 3) := dk_167 0 30 (dk_at dksX7_isReserved_6 16 rfl rfl)
theorem dX7_isReserved_214 : decode cX7_isReserved 214 = .ok (.aload_n 1, 1) := dk_43 (dk_at dksX7_isReserved_6 19 rfl rfl)
theorem dX7_isReserved_215 : decode cX7_isReserved 215 = .ok (.ldc 149, 2) := dk_18 149 (dk_at dksX7_isReserved_6 20 rfl rfl)
theorem dX7_isReserved_217 : decode cX7_isReserved 217 = .ok (.invokevirtual 131, 3) := dk_182 0 131 (dk_at dksX7_isReserved_7 0 rfl rfl)
theorem dX7_isReserved_220 : decode cX7_isReserved 220 = .ok (.ifCond .eq 21, 3) := dk_153 0 21 (dk_at dksX7_isReserved_7 3 rfl rfl)
theorem dX7_isReserved_223 : decode cX7_isReserved 223 = .ok (.bipush 8, 2) := dk_16 8 (dk_at dksX7_isReserved_7 6 rfl rfl)
theorem dX7_isReserved_225 : decode cX7_isReserved 225 = .ok (.istore_n 2, 1) := dk_61 (dk_at dksX7_isReserved_7 8 rfl rfl)
theorem dX7_isReserved_226 : decode cX7_isReserved 226 = .ok (.goto 15, 3) := dk_167 0 15 (dk_at dksX7_isReserved_7 9 rfl rfl)
theorem dX7_isReserved_229 : decode cX7_isReserved 229 = .ok (.aload_n 1, 1) := dk_43 (dk_at dksX7_isReserved_7 12 rfl rfl)
theorem dX7_isReserved_230 : decode cX7_isReserved 230 = .ok (.ldc 151, 2) := dk_18 151 (dk_at dksX7_isReserved_7 13 rfl rfl)
theorem dX7_isReserved_232 : decode cX7_isReserved 232 = .ok (.invokevirtual 131, 3) := dk_182 0 131 (dk_at dksX7_isReserved_7 15 rfl rfl)
theorem dX7_isReserved_235 : decode cX7_isReserved 235 = .ok (.ifCond .eq 6, 3) := dk_153 0 6 (dk_at dksX7_isReserved_7 18 rfl rfl)
theorem dX7_isReserved_238 : decode cX7_isReserved 238 = .ok (.bipush 9, 2) := dk_16 9 (dk_at dksX7_isReserved_7 21 rfl rfl)
theorem dX7_isReserved_240 : decode cX7_isReserved 240 = .ok (.istore_n 2, 1) := dk_61 (dk_at dksX7_isReserved_7 23 rfl rfl)
theorem dX7_isReserved_241 : decode cX7_isReserved 241 = .ok (.iload_n 2, 1) := dk_28 (dk_at dksX7_isReserved_8 0 rfl rfl)
theorem dX7_isReserved_242 : decode cX7_isReserved 242 = .ok (.tableswitch 58 0 9 #[54, 54, 54, 54, 54, 54, 54, 54, 54, 54], 54) := by decide +kernel
theorem dX7_isReserved_296 : decode cX7_isReserved 296 = .ok (.iconst 1, 1) := dk_4 (dk_at dksX7_isReserved_10 0 rfl rfl)
theorem dX7_isReserved_297 : decode cX7_isReserved 297 = .ok (.goto 4, 3) := dk_167 0 4 (dk_at dksX7_isReserved_10 1 rfl rfl)
theorem dX7_isReserved_300 : decode cX7_isReserved 300 = .ok (.iconst 0, 1) := dk_3 (dk_at dksX7_isReserved_10 4 rfl rfl)
theorem dX7_isReserved_301 : decode cX7_isReserved 301 = .ok (.ireturn, 1) := dk_172 (dk_at dksX7_isReserved_10 5 rfl rfl)
abbrev cX7_vote : ByteArray := prog_11_method_27_code
def yX7_vote : MethodName := ⟨RX7, "vote", "()LFranchiseLedger$Posting;"⟩
def dkwX7_vote_4 : List UInt8 := [9, 183, 1, 29, 176]
abbrev dktX7_vote_4 : List UInt8 := dkwX7_vote_4 ++ []
def dkwX7_vote_3 : List UInt8 := [182, 0, 131, 153, 0, 7, 4, 167, 0, 4, 3, 62, 42, 182, 0, 50, 187, 1, 22, 89, 8, 27, 28, 29]
abbrev dktX7_vote_3 : List UInt8 := dkwX7_vote_3 ++ dktX7_vote_4
def dkwX7_vote_2 : List UInt8 := [182, 0, 131, 153, 0, 7, 4, 167, 0, 4, 3, 4, 182, 0, 116, 42, 180, 0, 33, 19, 1, 36]
abbrev dktX7_vote_2 : List UInt8 := dkwX7_vote_2 ++ dktX7_vote_3
def dkwX7_vote_1 : List UInt8 := [4, 160, 0, 33, 42, 180, 0, 33, 19, 1, 36, 182, 0, 131, 154, 0, 16, 42, 180, 0, 33, 19, 1, 38]
abbrev dktX7_vote_1 : List UInt8 := dkwX7_vote_1 ++ dktX7_vote_2
def dkwX7_vote_0 : List UInt8 := [42, 42, 180, 0, 3, 180, 1, 32, 182, 0, 197, 60, 42, 3, 7, 182, 0, 164, 61, 42, 42, 180, 0, 79]
abbrev dktX7_vote_0 : List UInt8 := dkwX7_vote_0 ++ dktX7_vote_1
theorem dksX7_vote_0 : cX7_vote.data.toList.drop 0 = dktX7_vote_0 := by decide +kernel
theorem dksX7_vote_1 : cX7_vote.data.toList.drop 24 = dktX7_vote_1 := dk_seg dksX7_vote_0 24 rfl rfl
theorem dksX7_vote_2 : cX7_vote.data.toList.drop 48 = dktX7_vote_2 := dk_seg dksX7_vote_1 24 rfl rfl
theorem dksX7_vote_3 : cX7_vote.data.toList.drop 70 = dktX7_vote_3 := dk_seg dksX7_vote_2 22 rfl rfl
theorem dksX7_vote_4 : cX7_vote.data.toList.drop 94 = dktX7_vote_4 := dk_seg dksX7_vote_3 24 rfl rfl
theorem dX7_vote_0 : decode cX7_vote 0 = .ok (.aload_n 0, 1) := dk_42 (dk_at dksX7_vote_0 0 rfl rfl)
theorem dX7_vote_1 : decode cX7_vote 1 = .ok (.aload_n 0, 1) := dk_42 (dk_at dksX7_vote_0 1 rfl rfl)
theorem dX7_vote_2 : decode cX7_vote 2 = .ok (.getfield 3, 3) := dk_180 0 3 (dk_at dksX7_vote_0 2 rfl rfl)
theorem dX7_vote_5 : decode cX7_vote 5 = .ok (.getfield 288, 3) := dk_180 1 32 (dk_at dksX7_vote_0 5 rfl rfl)
theorem dX7_vote_8 : decode cX7_vote 8 = .ok (.invokevirtual 197, 3) := dk_182 0 197 (dk_at dksX7_vote_0 8 rfl rfl)
theorem dX7_vote_11 : decode cX7_vote 11 = .ok (.istore_n 1, 1) := dk_60 (dk_at dksX7_vote_0 11 rfl rfl)
theorem dX7_vote_12 : decode cX7_vote 12 = .ok (.aload_n 0, 1) := dk_42 (dk_at dksX7_vote_0 12 rfl rfl)
theorem dX7_vote_13 : decode cX7_vote 13 = .ok (.iconst 0, 1) := dk_3 (dk_at dksX7_vote_0 13 rfl rfl)
theorem dX7_vote_14 : decode cX7_vote 14 = .ok (.iconst 4, 1) := dk_7 (dk_at dksX7_vote_0 14 rfl rfl)
theorem dX7_vote_15 : decode cX7_vote 15 = .ok (.invokevirtual 164, 3) := dk_182 0 164 (dk_at dksX7_vote_0 15 rfl rfl)
theorem dX7_vote_18 : decode cX7_vote 18 = .ok (.istore_n 2, 1) := dk_61 (dk_at dksX7_vote_0 18 rfl rfl)
theorem dX7_vote_19 : decode cX7_vote 19 = .ok (.aload_n 0, 1) := dk_42 (dk_at dksX7_vote_0 19 rfl rfl)
theorem dX7_vote_20 : decode cX7_vote 20 = .ok (.aload_n 0, 1) := dk_42 (dk_at dksX7_vote_0 20 rfl rfl)
theorem dX7_vote_21 : decode cX7_vote 21 = .ok (.getfield 79, 3) := dk_180 0 79 (dk_at dksX7_vote_0 21 rfl rfl)
theorem dX7_vote_24 : decode cX7_vote 24 = .ok (.iconst 1, 1) := dk_4 (dk_at dksX7_vote_1 0 rfl rfl)
theorem dX7_vote_25 : decode cX7_vote 25 = .ok (.if_icmp .ne 33, 3) := dk_160 0 33 (dk_at dksX7_vote_1 1 rfl rfl)
theorem dX7_vote_28 : decode cX7_vote 28 = .ok (.aload_n 0, 1) := dk_42 (dk_at dksX7_vote_1 4 rfl rfl)
theorem dX7_vote_29 : decode cX7_vote 29 = .ok (.getfield 33, 3) := dk_180 0 33 (dk_at dksX7_vote_1 5 rfl rfl)
theorem dX7_vote_32 : decode cX7_vote 32 = .ok (.ldc_w 292, 3) := dk_19 1 36 (dk_at dksX7_vote_1 8 rfl rfl)
theorem dX7_vote_35 : decode cX7_vote 35 = .ok (.invokevirtual 131, 3) := dk_182 0 131 (dk_at dksX7_vote_1 11 rfl rfl)
theorem dX7_vote_38 : decode cX7_vote 38 = .ok (.ifCond .ne 16, 3) := dk_154 0 16 (dk_at dksX7_vote_1 14 rfl rfl)
theorem dX7_vote_41 : decode cX7_vote 41 = .ok (.aload_n 0, 1) := dk_42 (dk_at dksX7_vote_1 17 rfl rfl)
theorem dX7_vote_42 : decode cX7_vote 42 = .ok (.getfield 33, 3) := dk_180 0 33 (dk_at dksX7_vote_1 18 rfl rfl)
theorem dX7_vote_45 : decode cX7_vote 45 = .ok (.ldc_w 294, 3) := dk_19 1 38 (dk_at dksX7_vote_1 21 rfl rfl)
theorem dX7_vote_48 : decode cX7_vote 48 = .ok (.invokevirtual 131, 3) := dk_182 0 131 (dk_at dksX7_vote_2 0 rfl rfl)
theorem dX7_vote_51 : decode cX7_vote 51 = .ok (.ifCond .eq 7, 3) := dk_153 0 7 (dk_at dksX7_vote_2 3 rfl rfl)
theorem dX7_vote_54 : decode cX7_vote 54 = .ok (.iconst 1, 1) := dk_4 (dk_at dksX7_vote_2 6 rfl rfl)
theorem dX7_vote_55 : decode cX7_vote 55 = .ok (.goto 4, 3) := dk_167 0 4 (dk_at dksX7_vote_2 7 rfl rfl)
theorem dX7_vote_58 : decode cX7_vote 58 = .ok (.iconst 0, 1) := dk_3 (dk_at dksX7_vote_2 10 rfl rfl)
theorem dX7_vote_59 : decode cX7_vote 59 = .ok (.iconst 1, 1) := dk_4 (dk_at dksX7_vote_2 11 rfl rfl)
theorem dX7_vote_60 : decode cX7_vote 60 = .ok (.invokevirtual 116, 3) := dk_182 0 116 (dk_at dksX7_vote_2 12 rfl rfl)
theorem dX7_vote_63 : decode cX7_vote 63 = .ok (.aload_n 0, 1) := dk_42 (dk_at dksX7_vote_2 15 rfl rfl)
theorem dX7_vote_64 : decode cX7_vote 64 = .ok (.getfield 33, 3) := dk_180 0 33 (dk_at dksX7_vote_2 16 rfl rfl)
theorem dX7_vote_67 : decode cX7_vote 67 = .ok (.ldc_w 292, 3) := dk_19 1 36 (dk_at dksX7_vote_2 19 rfl rfl)
theorem dX7_vote_70 : decode cX7_vote 70 = .ok (.invokevirtual 131, 3) := dk_182 0 131 (dk_at dksX7_vote_3 0 rfl rfl)
theorem dX7_vote_73 : decode cX7_vote 73 = .ok (.ifCond .eq 7, 3) := dk_153 0 7 (dk_at dksX7_vote_3 3 rfl rfl)
theorem dX7_vote_76 : decode cX7_vote 76 = .ok (.iconst 1, 1) := dk_4 (dk_at dksX7_vote_3 6 rfl rfl)
theorem dX7_vote_77 : decode cX7_vote 77 = .ok (.goto 4, 3) := dk_167 0 4 (dk_at dksX7_vote_3 7 rfl rfl)
theorem dX7_vote_80 : decode cX7_vote 80 = .ok (.iconst 0, 1) := dk_3 (dk_at dksX7_vote_3 10 rfl rfl)
theorem dX7_vote_81 : decode cX7_vote 81 = .ok (.istore_n 3, 1) := dk_62 (dk_at dksX7_vote_3 11 rfl rfl)
theorem dX7_vote_82 : decode cX7_vote 82 = .ok (.aload_n 0, 1) := dk_42 (dk_at dksX7_vote_3 12 rfl rfl)
theorem dX7_vote_83 : decode cX7_vote 83 = .ok (.invokevirtual 50, 3) := dk_182 0 50 (dk_at dksX7_vote_3 13 rfl rfl)
theorem dX7_vote_86 : decode cX7_vote 86 = .ok (.new 278, 3) := dk_187 1 22 (dk_at dksX7_vote_3 16 rfl rfl)
theorem dX7_vote_89 : decode cX7_vote 89 = .ok (.dup, 1) := dk_89 (dk_at dksX7_vote_3 19 rfl rfl)
theorem dX7_vote_90 : decode cX7_vote 90 = .ok (.iconst 5, 1) := dk_8 (dk_at dksX7_vote_3 20 rfl rfl)
theorem dX7_vote_91 : decode cX7_vote 91 = .ok (.iload_n 1, 1) := dk_27 (dk_at dksX7_vote_3 21 rfl rfl)
theorem dX7_vote_92 : decode cX7_vote 92 = .ok (.iload_n 2, 1) := dk_28 (dk_at dksX7_vote_3 22 rfl rfl)
theorem dX7_vote_93 : decode cX7_vote 93 = .ok (.iload_n 3, 1) := dk_29 (dk_at dksX7_vote_3 23 rfl rfl)
theorem dX7_vote_94 : decode cX7_vote 94 = .ok (.lconst 0, 1) := dk_9 (dk_at dksX7_vote_4 0 rfl rfl)
theorem dX7_vote_95 : decode cX7_vote 95 = .ok (.invokespecial 285, 3) := dk_183 1 29 (dk_at dksX7_vote_4 1 rfl rfl)
theorem dX7_vote_98 : decode cX7_vote 98 = .ok (.areturn, 1) := dk_176 (dk_at dksX7_vote_4 4 rfl rfl)
abbrev cX7_read : ByteArray := prog_11_method_22_code
def yX7_read : MethodName := ⟨RX7, "read", "()V"⟩
def dkwX7_read_0 : List UInt8 := [42, 180, 0, 79, 153, 0, 10, 42, 182, 1, 19, 167, 255, 245, 177]
abbrev dktX7_read_0 : List UInt8 := dkwX7_read_0 ++ []
theorem dksX7_read_0 : cX7_read.data.toList.drop 0 = dktX7_read_0 := by decide +kernel
theorem dX7_read_0 : decode cX7_read 0 = .ok (.aload_n 0, 1) := dk_42 (dk_at dksX7_read_0 0 rfl rfl)
theorem dX7_read_1 : decode cX7_read 1 = .ok (.getfield 79, 3) := dk_180 0 79 (dk_at dksX7_read_0 1 rfl rfl)
theorem dX7_read_4 : decode cX7_read 4 = .ok (.ifCond .eq 10, 3) := dk_153 0 10 (dk_at dksX7_read_0 4 rfl rfl)
theorem dX7_read_7 : decode cX7_read 7 = .ok (.aload_n 0, 1) := dk_42 (dk_at dksX7_read_0 7 rfl rfl)
theorem dX7_read_8 : decode cX7_read 8 = .ok (.invokevirtual 275, 3) := dk_182 1 19 (dk_at dksX7_read_0 8 rfl rfl)
theorem dX7_read_11 : decode cX7_read 11 = .ok (.goto (-11), 3) := dk_167 255 245 (dk_at dksX7_read_0 11 rfl rfl)
theorem dX7_read_14 : decode cX7_read 14 = .ok (.return_, 1) := dk_177 (dk_at dksX7_read_0 14 rfl rfl)
abbrev cX7_statement : ByteArray := prog_11_method_21_code
def yX7_statement : MethodName := ⟨RX7, "statement", "()V"⟩
def dkwX7_statement_10 : List UInt8 := [181, 1, 16, 177]
abbrev dktX7_statement_10 : List UInt8 := dkwX7_statement_10 ++ []
def dkwX7_statement_9 : List UInt8 := [167, 0, 4, 3, 4, 182, 0, 116, 42, 182, 0, 50, 42, 180, 0, 18, 89, 180, 1, 16, 4, 96]
abbrev dktX7_statement_9 : List UInt8 := dkwX7_statement_9 ++ dktX7_statement_10
def dkwX7_statement_8 : List UInt8 := [182, 1, 10, 167, 0, 11, 42, 42, 180, 0, 33, 182, 1, 12, 42, 42, 180, 0, 79, 6, 160, 0, 7, 4]
abbrev dktX7_statement_8 : List UInt8 := dkwX7_statement_8 ++ dktX7_statement_9
def dkwX7_statement_7 : List UInt8 := [42, 182, 1, 4, 167, 0, 32, 42, 182, 1, 6, 167, 0, 25, 42, 182, 1, 8, 167, 0, 18, 42]
abbrev dktX7_statement_7 : List UInt8 := dkwX7_statement_7 ++ dktX7_statement_8
def dkwX7_statement_6 : List UInt8 := [170, 0, 0, 0, 0, 58, 0, 0, 0, 0, 0, 0, 0, 3, 0, 0, 0, 30, 0, 0, 0, 37, 0, 0, 0, 44, 0, 0, 0, 51]
abbrev dktX7_statement_6 : List UInt8 := dkwX7_statement_6 ++ dktX7_statement_7
def dkwX7_statement_5 : List UInt8 := [153, 0, 5, 6, 61, 28]
abbrev dktX7_statement_5 : List UInt8 := dkwX7_statement_5 ++ dktX7_statement_6
def dkwX7_statement_4 : List UInt8 := [61, 167, 0, 28, 43, 18, 137, 182, 0, 131, 153, 0, 19, 5, 61, 167, 0, 14, 43, 18, 139, 182, 0, 131]
abbrev dktX7_statement_4 : List UInt8 := dkwX7_statement_4 ++ dktX7_statement_5
def dkwX7_statement_3 : List UInt8 := [43, 18, 129, 182, 0, 131, 153, 0, 47, 3, 61, 167, 0, 42, 43, 18, 135, 182, 0, 131, 153, 0, 33, 4]
abbrev dktX7_statement_3 : List UInt8 := dkwX7_statement_3 ++ dktX7_statement_4
def dkwX7_statement_2 : List UInt8 := [171, 0, 0, 0, 0, 0, 0, 97, 0, 0, 0, 4, 196, 17, 8, 13, 0, 0, 0, 86, 0, 45, 208, 141, 0, 0, 0, 72, 0, 52, 139, 41, 0, 0, 0, 44, 33, 214, 192, 104, 0, 0, 0, 58]
abbrev dktX7_statement_2 : List UInt8 := dkwX7_statement_2 ++ dktX7_statement_3
def dkwX7_statement_1 : List UInt8 := [182, 0, 116, 42, 180, 0, 33, 76, 2, 61, 43, 182, 0, 124]
abbrev dktX7_statement_1 : List UInt8 := dkwX7_statement_1 ++ dktX7_statement_2
def dkwX7_statement_0 : List UInt8 := [42, 42, 180, 0, 79, 4, 160, 0, 14, 42, 182, 0, 184, 153, 0, 7, 4, 167, 0, 4, 3, 4]
abbrev dktX7_statement_0 : List UInt8 := dkwX7_statement_0 ++ dktX7_statement_1
theorem dksX7_statement_0 : cX7_statement.data.toList.drop 0 = dktX7_statement_0 := by decide +kernel
theorem dksX7_statement_1 : cX7_statement.data.toList.drop 22 = dktX7_statement_1 := dk_seg dksX7_statement_0 22 rfl rfl
theorem dksX7_statement_2 : cX7_statement.data.toList.drop 36 = dktX7_statement_2 := dk_seg dksX7_statement_1 14 rfl rfl
theorem dksX7_statement_3 : cX7_statement.data.toList.drop 80 = dktX7_statement_3 := dk_seg dksX7_statement_2 44 rfl rfl
theorem dksX7_statement_4 : cX7_statement.data.toList.drop 104 = dktX7_statement_4 := dk_seg dksX7_statement_3 24 rfl rfl
theorem dksX7_statement_5 : cX7_statement.data.toList.drop 128 = dktX7_statement_5 := dk_seg dksX7_statement_4 24 rfl rfl
theorem dksX7_statement_6 : cX7_statement.data.toList.drop 134 = dktX7_statement_6 := dk_seg dksX7_statement_5 6 rfl rfl
theorem dksX7_statement_7 : cX7_statement.data.toList.drop 164 = dktX7_statement_7 := dk_seg dksX7_statement_6 30 rfl rfl
theorem dksX7_statement_8 : cX7_statement.data.toList.drop 186 = dktX7_statement_8 := dk_seg dksX7_statement_7 22 rfl rfl
theorem dksX7_statement_9 : cX7_statement.data.toList.drop 210 = dktX7_statement_9 := dk_seg dksX7_statement_8 24 rfl rfl
theorem dksX7_statement_10 : cX7_statement.data.toList.drop 232 = dktX7_statement_10 := dk_seg dksX7_statement_9 22 rfl rfl
theorem dX7_statement_0 : decode cX7_statement 0 = .ok (.aload_n 0, 1) := dk_42 (dk_at dksX7_statement_0 0 rfl rfl)
theorem dX7_statement_1 : decode cX7_statement 1 = .ok (.aload_n 0, 1) := dk_42 (dk_at dksX7_statement_0 1 rfl rfl)
theorem dX7_statement_2 : decode cX7_statement 2 = .ok (.getfield 79, 3) := dk_180 0 79 (dk_at dksX7_statement_0 2 rfl rfl)
theorem dX7_statement_5 : decode cX7_statement 5 = .ok (.iconst 1, 1) := dk_4 (dk_at dksX7_statement_0 5 rfl rfl)
theorem dX7_statement_6 : decode cX7_statement 6 = .ok (.if_icmp .ne 14, 3) := dk_160 0 14 (dk_at dksX7_statement_0 6 rfl rfl)
theorem dX7_statement_9 : decode cX7_statement 9 = .ok (.aload_n 0, 1) := dk_42 (dk_at dksX7_statement_0 9 rfl rfl)
theorem dX7_statement_10 : decode cX7_statement 10 = .ok (.invokevirtual 184, 3) := dk_182 0 184 (dk_at dksX7_statement_0 10 rfl rfl)
theorem dX7_statement_13 : decode cX7_statement 13 = .ok (.ifCond .eq 7, 3) := dk_153 0 7 (dk_at dksX7_statement_0 13 rfl rfl)
theorem dX7_statement_16 : decode cX7_statement 16 = .ok (.iconst 1, 1) := dk_4 (dk_at dksX7_statement_0 16 rfl rfl)
theorem dX7_statement_17 : decode cX7_statement 17 = .ok (.goto 4, 3) := dk_167 0 4 (dk_at dksX7_statement_0 17 rfl rfl)
theorem dX7_statement_20 : decode cX7_statement 20 = .ok (.iconst 0, 1) := dk_3 (dk_at dksX7_statement_0 20 rfl rfl)
theorem dX7_statement_21 : decode cX7_statement 21 = .ok (.iconst 1, 1) := dk_4 (dk_at dksX7_statement_0 21 rfl rfl)
theorem dX7_statement_22 : decode cX7_statement 22 = .ok (.invokevirtual 116, 3) := dk_182 0 116 (dk_at dksX7_statement_1 0 rfl rfl)
theorem dX7_statement_25 : decode cX7_statement 25 = .ok (.aload_n 0, 1) := dk_42 (dk_at dksX7_statement_1 3 rfl rfl)
theorem dX7_statement_26 : decode cX7_statement 26 = .ok (.getfield 33, 3) := dk_180 0 33 (dk_at dksX7_statement_1 4 rfl rfl)
theorem dX7_statement_29 : decode cX7_statement 29 = .ok (.astore_n 1, 1) := dk_76 (dk_at dksX7_statement_1 7 rfl rfl)
theorem dX7_statement_30 : decode cX7_statement 30 = .ok (.iconst (-1), 1) := dk_2 (dk_at dksX7_statement_1 8 rfl rfl)
theorem dX7_statement_31 : decode cX7_statement 31 = .ok (.istore_n 2, 1) := dk_61 (dk_at dksX7_statement_1 9 rfl rfl)
theorem dX7_statement_32 : decode cX7_statement 32 = .ok (.aload_n 1, 1) := dk_43 (dk_at dksX7_statement_1 10 rfl rfl)
theorem dX7_statement_33 : decode cX7_statement 33 = .ok (.invokevirtual 124, 3) := dk_182 0 124 (dk_at dksX7_statement_1 11 rfl rfl)
theorem dX7_statement_36 : decode cX7_statement 36 = .ok (.lookupswitch 97 #[(-1005516787, 86), (3002509, 72), (3443497, 44), (567722088, 58)], 44) := by decide +kernel
theorem dX7_statement_80 : decode cX7_statement 80 = .ok (.aload_n 1, 1) := dk_43 (dk_at dksX7_statement_3 0 rfl rfl)
theorem dX7_statement_81 : decode cX7_statement 81 = .ok (.ldc 129, 2) := dk_18 129 (dk_at dksX7_statement_3 1 rfl rfl)
theorem dX7_statement_83 : decode cX7_statement 83 = .ok (.invokevirtual 131, 3) := dk_182 0 131 (dk_at dksX7_statement_3 3 rfl rfl)
theorem dX7_statement_86 : decode cX7_statement 86 = .ok (.ifCond .eq 47, 3) := dk_153 0 47 (dk_at dksX7_statement_3 6 rfl rfl)
theorem dX7_statement_89 : decode cX7_statement 89 = .ok (.iconst 0, 1) := dk_3 (dk_at dksX7_statement_3 9 rfl rfl)
theorem dX7_statement_90 : decode cX7_statement 90 = .ok (.istore_n 2, 1) := dk_61 (dk_at dksX7_statement_3 10 rfl rfl)
theorem dX7_statement_91 : decode cX7_statement 91 = .ok (.goto 42, 3) := dk_167 0 42 (dk_at dksX7_statement_3 11 rfl rfl)
theorem dX7_statement_94 : decode cX7_statement 94 = .ok (.aload_n 1, 1) := dk_43 (dk_at dksX7_statement_3 14 rfl rfl)
theorem dX7_statement_95 : decode cX7_statement 95 = .ok (.ldc 135, 2) := dk_18 135 (dk_at dksX7_statement_3 15 rfl rfl)
theorem dX7_statement_97 : decode cX7_statement 97 = .ok (.invokevirtual 131, 3) := dk_182 0 131 (dk_at dksX7_statement_3 17 rfl rfl)
theorem dX7_statement_100 : decode cX7_statement 100 = .ok (.ifCond .eq 33, 3) := dk_153 0 33 (dk_at dksX7_statement_3 20 rfl rfl)
theorem dX7_statement_103 : decode cX7_statement 103 = .ok (.iconst 1, 1) := dk_4 (dk_at dksX7_statement_3 23 rfl rfl)
theorem dX7_statement_104 : decode cX7_statement 104 = .ok (.istore_n 2, 1) := dk_61 (dk_at dksX7_statement_4 0 rfl rfl)
theorem dX7_statement_105 : decode cX7_statement 105 = .ok (.goto 28, 3) := dk_167 0 28 (dk_at dksX7_statement_4 1 rfl rfl)
theorem dX7_statement_108 : decode cX7_statement 108 = .ok (.aload_n 1, 1) := dk_43 (dk_at dksX7_statement_4 4 rfl rfl)
theorem dX7_statement_109 : decode cX7_statement 109 = .ok (.ldc 137, 2) := dk_18 137 (dk_at dksX7_statement_4 5 rfl rfl)
theorem dX7_statement_111 : decode cX7_statement 111 = .ok (.invokevirtual 131, 3) := dk_182 0 131 (dk_at dksX7_statement_4 7 rfl rfl)
theorem dX7_statement_114 : decode cX7_statement 114 = .ok (.ifCond .eq 19, 3) := dk_153 0 19 (dk_at dksX7_statement_4 10 rfl rfl)
theorem dX7_statement_117 : decode cX7_statement 117 = .ok (.iconst 2, 1) := dk_5 (dk_at dksX7_statement_4 13 rfl rfl)
theorem dX7_statement_118 : decode cX7_statement 118 = .ok (.istore_n 2, 1) := dk_61 (dk_at dksX7_statement_4 14 rfl rfl)
theorem dX7_statement_119 : decode cX7_statement 119 = .ok (.goto 14, 3) := dk_167 0 14 (dk_at dksX7_statement_4 15 rfl rfl)
theorem dX7_statement_122 : decode cX7_statement 122 = .ok (.aload_n 1, 1) := dk_43 (dk_at dksX7_statement_4 18 rfl rfl)
theorem dX7_statement_123 : decode cX7_statement 123 = .ok (.ldc 139, 2) := dk_18 139 (dk_at dksX7_statement_4 19 rfl rfl)
theorem dX7_statement_125 : decode cX7_statement 125 = .ok (.invokevirtual 131, 3) := dk_182 0 131 (dk_at dksX7_statement_4 21 rfl rfl)
theorem dX7_statement_128 : decode cX7_statement 128 = .ok (.ifCond .eq 5, 3) := dk_153 0 5 (dk_at dksX7_statement_5 0 rfl rfl)
theorem dX7_statement_131 : decode cX7_statement 131 = .ok (.iconst 3, 1) := dk_6 (dk_at dksX7_statement_5 3 rfl rfl)
theorem dX7_statement_132 : decode cX7_statement 132 = .ok (.istore_n 2, 1) := dk_61 (dk_at dksX7_statement_5 4 rfl rfl)
theorem dX7_statement_133 : decode cX7_statement 133 = .ok (.iload_n 2, 1) := dk_28 (dk_at dksX7_statement_5 5 rfl rfl)
theorem dX7_statement_134 : decode cX7_statement 134 = .ok (.tableswitch 58 0 3 #[30, 37, 44, 51], 30) := by decide +kernel
theorem dX7_statement_164 : decode cX7_statement 164 = .ok (.aload_n 0, 1) := dk_42 (dk_at dksX7_statement_7 0 rfl rfl)
theorem dX7_statement_165 : decode cX7_statement 165 = .ok (.invokevirtual 260, 3) := dk_182 1 4 (dk_at dksX7_statement_7 1 rfl rfl)
theorem dX7_statement_168 : decode cX7_statement 168 = .ok (.goto 32, 3) := dk_167 0 32 (dk_at dksX7_statement_7 4 rfl rfl)
theorem dX7_statement_171 : decode cX7_statement 171 = .ok (.aload_n 0, 1) := dk_42 (dk_at dksX7_statement_7 7 rfl rfl)
theorem dX7_statement_172 : decode cX7_statement 172 = .ok (.invokevirtual 262, 3) := dk_182 1 6 (dk_at dksX7_statement_7 8 rfl rfl)
theorem dX7_statement_175 : decode cX7_statement 175 = .ok (.goto 25, 3) := dk_167 0 25 (dk_at dksX7_statement_7 11 rfl rfl)
theorem dX7_statement_178 : decode cX7_statement 178 = .ok (.aload_n 0, 1) := dk_42 (dk_at dksX7_statement_7 14 rfl rfl)
theorem dX7_statement_179 : decode cX7_statement 179 = .ok (.invokevirtual 264, 3) := dk_182 1 8 (dk_at dksX7_statement_7 15 rfl rfl)
theorem dX7_statement_182 : decode cX7_statement 182 = .ok (.goto 18, 3) := dk_167 0 18 (dk_at dksX7_statement_7 18 rfl rfl)
theorem dX7_statement_185 : decode cX7_statement 185 = .ok (.aload_n 0, 1) := dk_42 (dk_at dksX7_statement_7 21 rfl rfl)
theorem dX7_statement_186 : decode cX7_statement 186 = .ok (.invokevirtual 266, 3) := dk_182 1 10 (dk_at dksX7_statement_8 0 rfl rfl)
theorem dX7_statement_189 : decode cX7_statement 189 = .ok (.goto 11, 3) := dk_167 0 11 (dk_at dksX7_statement_8 3 rfl rfl)
theorem dX7_statement_192 : decode cX7_statement 192 = .ok (.aload_n 0, 1) := dk_42 (dk_at dksX7_statement_8 6 rfl rfl)
theorem dX7_statement_193 : decode cX7_statement 193 = .ok (.aload_n 0, 1) := dk_42 (dk_at dksX7_statement_8 7 rfl rfl)
theorem dX7_statement_194 : decode cX7_statement 194 = .ok (.getfield 33, 3) := dk_180 0 33 (dk_at dksX7_statement_8 8 rfl rfl)
theorem dX7_statement_197 : decode cX7_statement 197 = .ok (.invokevirtual 268, 3) := dk_182 1 12 (dk_at dksX7_statement_8 11 rfl rfl)
theorem dX7_statement_200 : decode cX7_statement 200 = .ok (.aload_n 0, 1) := dk_42 (dk_at dksX7_statement_8 14 rfl rfl)
theorem dX7_statement_201 : decode cX7_statement 201 = .ok (.aload_n 0, 1) := dk_42 (dk_at dksX7_statement_8 15 rfl rfl)
theorem dX7_statement_202 : decode cX7_statement 202 = .ok (.getfield 79, 3) := dk_180 0 79 (dk_at dksX7_statement_8 16 rfl rfl)
theorem dX7_statement_205 : decode cX7_statement 205 = .ok (.iconst 3, 1) := dk_6 (dk_at dksX7_statement_8 19 rfl rfl)
theorem dX7_statement_206 : decode cX7_statement 206 = .ok (.if_icmp .ne 7, 3) := dk_160 0 7 (dk_at dksX7_statement_8 20 rfl rfl)
theorem dX7_statement_209 : decode cX7_statement 209 = .ok (.iconst 1, 1) := dk_4 (dk_at dksX7_statement_8 23 rfl rfl)
theorem dX7_statement_210 : decode cX7_statement 210 = .ok (.goto 4, 3) := dk_167 0 4 (dk_at dksX7_statement_9 0 rfl rfl)
theorem dX7_statement_213 : decode cX7_statement 213 = .ok (.iconst 0, 1) := dk_3 (dk_at dksX7_statement_9 3 rfl rfl)
theorem dX7_statement_214 : decode cX7_statement 214 = .ok (.iconst 1, 1) := dk_4 (dk_at dksX7_statement_9 4 rfl rfl)
theorem dX7_statement_215 : decode cX7_statement 215 = .ok (.invokevirtual 116, 3) := dk_182 0 116 (dk_at dksX7_statement_9 5 rfl rfl)
theorem dX7_statement_218 : decode cX7_statement 218 = .ok (.aload_n 0, 1) := dk_42 (dk_at dksX7_statement_9 8 rfl rfl)
theorem dX7_statement_219 : decode cX7_statement 219 = .ok (.invokevirtual 50, 3) := dk_182 0 50 (dk_at dksX7_statement_9 9 rfl rfl)
theorem dX7_statement_222 : decode cX7_statement 222 = .ok (.aload_n 0, 1) := dk_42 (dk_at dksX7_statement_9 12 rfl rfl)
theorem dX7_statement_223 : decode cX7_statement 223 = .ok (.getfield 18, 3) := dk_180 0 18 (dk_at dksX7_statement_9 13 rfl rfl)
theorem dX7_statement_226 : decode cX7_statement 226 = .ok (.dup, 1) := dk_89 (dk_at dksX7_statement_9 16 rfl rfl)
theorem dX7_statement_227 : decode cX7_statement 227 = .ok (.getfield 272, 3) := dk_180 1 16 (dk_at dksX7_statement_9 17 rfl rfl)
theorem dX7_statement_230 : decode cX7_statement 230 = .ok (.iconst 1, 1) := dk_4 (dk_at dksX7_statement_9 20 rfl rfl)
theorem dX7_statement_231 : decode cX7_statement 231 = .ok (.iadd, 1) := dk_96 (dk_at dksX7_statement_9 21 rfl rfl)
theorem dX7_statement_232 : decode cX7_statement 232 = .ok (.putfield 272, 3) := dk_181 1 16 (dk_at dksX7_statement_10 0 rfl rfl)
theorem dX7_statement_235 : decode cX7_statement 235 = .ok (.return_, 1) := dk_177 (dk_at dksX7_statement_10 3 rfl rfl)
abbrev cX7_plan : ByteArray := prog_11_method_12_code
def yX7_plan : MethodName := ⟨RX7, "plan", "()V"⟩
def dkwX7_plan_7 : List UInt8 := [185, 0, 175, 2, 0, 87, 177]
abbrev dktX7_plan_7 : List UInt8 := dkwX7_plan_7 ++ []
def dkwX7_plan_6 : List UInt8 := [182, 0, 164, 183, 0, 172, 185, 0, 175, 2, 0, 87, 167, 255, 180, 42, 180, 0, 18, 180, 0, 153, 43]
abbrev dktX7_plan_6 : List UInt8 := dkwX7_plan_6 ++ dktX7_plan_7
def dkwX7_plan_5 : List UInt8 := [182, 0, 50, 43, 180, 0, 167, 187, 0, 170, 89, 20, 0, 179, 28, 133, 105, 42, 3, 17, 11, 184]
abbrev dktX7_plan_5 : List UInt8 := dkwX7_plan_5 ++ dktX7_plan_6
def dkwX7_plan_4 : List UInt8 := [180, 0, 167, 185, 0, 157, 1, 0, 7, 163, 0, 7, 4, 167, 0, 4, 3, 7, 182, 0, 116, 42]
abbrev dktX7_plan_4 : List UInt8 := dkwX7_plan_4 ++ dktX7_plan_5
def dkwX7_plan_3 : List UInt8 := [87, 3, 61, 42, 180, 0, 79, 5, 160, 0, 74, 42, 28, 4, 96, 18, 178, 182, 0, 120, 61, 42, 43]
abbrev dktX7_plan_3 : List UInt8 := dkwX7_plan_3 ++ dktX7_plan_4
def dkwX7_plan_2 : List UInt8 := [180, 0, 167, 187, 0, 170, 89, 9, 42, 3, 17, 11, 184, 182, 0, 164, 183, 0, 172, 185, 0, 175, 2, 0]
abbrev dktX7_plan_2 : List UInt8 := dkwX7_plan_2 ++ dktX7_plan_3
def dkwX7_plan_1 : List UInt8 := [182, 0, 116, 42, 182, 0, 50, 187, 0, 162, 89, 42, 3, 17, 3, 232, 182, 0, 164, 183, 0, 166, 76, 43]
abbrev dktX7_plan_1 : List UInt8 := dkwX7_plan_1 ++ dktX7_plan_2
def dkwX7_plan_0 : List UInt8 := [42, 42, 180, 0, 18, 180, 0, 153, 185, 0, 157, 1, 0, 7, 162, 0, 7, 4, 167, 0, 4, 3, 7]
abbrev dktX7_plan_0 : List UInt8 := dkwX7_plan_0 ++ dktX7_plan_1
theorem dksX7_plan_0 : cX7_plan.data.toList.drop 0 = dktX7_plan_0 := by decide +kernel
theorem dksX7_plan_1 : cX7_plan.data.toList.drop 23 = dktX7_plan_1 := dk_seg dksX7_plan_0 23 rfl rfl
theorem dksX7_plan_2 : cX7_plan.data.toList.drop 47 = dktX7_plan_2 := dk_seg dksX7_plan_1 24 rfl rfl
theorem dksX7_plan_3 : cX7_plan.data.toList.drop 71 = dktX7_plan_3 := dk_seg dksX7_plan_2 24 rfl rfl
theorem dksX7_plan_4 : cX7_plan.data.toList.drop 94 = dktX7_plan_4 := dk_seg dksX7_plan_3 23 rfl rfl
theorem dksX7_plan_5 : cX7_plan.data.toList.drop 116 = dktX7_plan_5 := dk_seg dksX7_plan_4 22 rfl rfl
theorem dksX7_plan_6 : cX7_plan.data.toList.drop 138 = dktX7_plan_6 := dk_seg dksX7_plan_5 22 rfl rfl
theorem dksX7_plan_7 : cX7_plan.data.toList.drop 161 = dktX7_plan_7 := dk_seg dksX7_plan_6 23 rfl rfl
theorem dX7_plan_0 : decode cX7_plan 0 = .ok (.aload_n 0, 1) := dk_42 (dk_at dksX7_plan_0 0 rfl rfl)
theorem dX7_plan_1 : decode cX7_plan 1 = .ok (.aload_n 0, 1) := dk_42 (dk_at dksX7_plan_0 1 rfl rfl)
theorem dX7_plan_2 : decode cX7_plan 2 = .ok (.getfield 18, 3) := dk_180 0 18 (dk_at dksX7_plan_0 2 rfl rfl)
theorem dX7_plan_5 : decode cX7_plan 5 = .ok (.getfield 153, 3) := dk_180 0 153 (dk_at dksX7_plan_0 5 rfl rfl)
theorem dX7_plan_8 : decode cX7_plan 8 = .ok (.invokeinterface 157 1, 5) := by decide +kernel
theorem dX7_plan_13 : decode cX7_plan 13 = .ok (.iconst 4, 1) := dk_7 (dk_at dksX7_plan_0 13 rfl rfl)
theorem dX7_plan_14 : decode cX7_plan 14 = .ok (.if_icmp .ge 7, 3) := dk_162 0 7 (dk_at dksX7_plan_0 14 rfl rfl)
theorem dX7_plan_17 : decode cX7_plan 17 = .ok (.iconst 1, 1) := dk_4 (dk_at dksX7_plan_0 17 rfl rfl)
theorem dX7_plan_18 : decode cX7_plan 18 = .ok (.goto 4, 3) := dk_167 0 4 (dk_at dksX7_plan_0 18 rfl rfl)
theorem dX7_plan_21 : decode cX7_plan 21 = .ok (.iconst 0, 1) := dk_3 (dk_at dksX7_plan_0 21 rfl rfl)
theorem dX7_plan_22 : decode cX7_plan 22 = .ok (.iconst 4, 1) := dk_7 (dk_at dksX7_plan_0 22 rfl rfl)
theorem dX7_plan_23 : decode cX7_plan 23 = .ok (.invokevirtual 116, 3) := dk_182 0 116 (dk_at dksX7_plan_1 0 rfl rfl)
theorem dX7_plan_26 : decode cX7_plan 26 = .ok (.aload_n 0, 1) := dk_42 (dk_at dksX7_plan_1 3 rfl rfl)
theorem dX7_plan_27 : decode cX7_plan 27 = .ok (.invokevirtual 50, 3) := dk_182 0 50 (dk_at dksX7_plan_1 4 rfl rfl)
theorem dX7_plan_30 : decode cX7_plan 30 = .ok (.new 162, 3) := dk_187 0 162 (dk_at dksX7_plan_1 7 rfl rfl)
theorem dX7_plan_33 : decode cX7_plan 33 = .ok (.dup, 1) := dk_89 (dk_at dksX7_plan_1 10 rfl rfl)
theorem dX7_plan_34 : decode cX7_plan 34 = .ok (.aload_n 0, 1) := dk_42 (dk_at dksX7_plan_1 11 rfl rfl)
theorem dX7_plan_35 : decode cX7_plan 35 = .ok (.iconst 0, 1) := dk_3 (dk_at dksX7_plan_1 12 rfl rfl)
theorem dX7_plan_36 : decode cX7_plan 36 = .ok (.sipush 1000, 3) := dk_17 3 232 (dk_at dksX7_plan_1 13 rfl rfl)
theorem dX7_plan_39 : decode cX7_plan 39 = .ok (.invokevirtual 164, 3) := dk_182 0 164 (dk_at dksX7_plan_1 16 rfl rfl)
theorem dX7_plan_42 : decode cX7_plan 42 = .ok (.invokespecial 166, 3) := dk_183 0 166 (dk_at dksX7_plan_1 19 rfl rfl)
theorem dX7_plan_45 : decode cX7_plan 45 = .ok (.astore_n 1, 1) := dk_76 (dk_at dksX7_plan_1 22 rfl rfl)
theorem dX7_plan_46 : decode cX7_plan 46 = .ok (.aload_n 1, 1) := dk_43 (dk_at dksX7_plan_1 23 rfl rfl)
theorem dX7_plan_47 : decode cX7_plan 47 = .ok (.getfield 167, 3) := dk_180 0 167 (dk_at dksX7_plan_2 0 rfl rfl)
theorem dX7_plan_50 : decode cX7_plan 50 = .ok (.new 170, 3) := dk_187 0 170 (dk_at dksX7_plan_2 3 rfl rfl)
theorem dX7_plan_53 : decode cX7_plan 53 = .ok (.dup, 1) := dk_89 (dk_at dksX7_plan_2 6 rfl rfl)
theorem dX7_plan_54 : decode cX7_plan 54 = .ok (.lconst 0, 1) := dk_9 (dk_at dksX7_plan_2 7 rfl rfl)
theorem dX7_plan_55 : decode cX7_plan 55 = .ok (.aload_n 0, 1) := dk_42 (dk_at dksX7_plan_2 8 rfl rfl)
theorem dX7_plan_56 : decode cX7_plan 56 = .ok (.iconst 0, 1) := dk_3 (dk_at dksX7_plan_2 9 rfl rfl)
theorem dX7_plan_57 : decode cX7_plan 57 = .ok (.sipush 3000, 3) := dk_17 11 184 (dk_at dksX7_plan_2 10 rfl rfl)
theorem dX7_plan_60 : decode cX7_plan 60 = .ok (.invokevirtual 164, 3) := dk_182 0 164 (dk_at dksX7_plan_2 13 rfl rfl)
theorem dX7_plan_63 : decode cX7_plan 63 = .ok (.invokespecial 172, 3) := dk_183 0 172 (dk_at dksX7_plan_2 16 rfl rfl)
theorem dX7_plan_66 : decode cX7_plan 66 = .ok (.invokeinterface 175 2, 5) := by decide +kernel
theorem dX7_plan_71 : decode cX7_plan 71 = .ok (.pop, 1) := dk_87 (dk_at dksX7_plan_3 0 rfl rfl)
theorem dX7_plan_72 : decode cX7_plan 72 = .ok (.iconst 0, 1) := dk_3 (dk_at dksX7_plan_3 1 rfl rfl)
theorem dX7_plan_73 : decode cX7_plan 73 = .ok (.istore_n 2, 1) := dk_61 (dk_at dksX7_plan_3 2 rfl rfl)
theorem dX7_plan_74 : decode cX7_plan 74 = .ok (.aload_n 0, 1) := dk_42 (dk_at dksX7_plan_3 3 rfl rfl)
theorem dX7_plan_75 : decode cX7_plan 75 = .ok (.getfield 79, 3) := dk_180 0 79 (dk_at dksX7_plan_3 4 rfl rfl)
theorem dX7_plan_78 : decode cX7_plan 78 = .ok (.iconst 2, 1) := dk_5 (dk_at dksX7_plan_3 7 rfl rfl)
theorem dX7_plan_79 : decode cX7_plan 79 = .ok (.if_icmp .ne 74, 3) := dk_160 0 74 (dk_at dksX7_plan_3 8 rfl rfl)
theorem dX7_plan_82 : decode cX7_plan 82 = .ok (.aload_n 0, 1) := dk_42 (dk_at dksX7_plan_3 11 rfl rfl)
theorem dX7_plan_83 : decode cX7_plan 83 = .ok (.iload_n 2, 1) := dk_28 (dk_at dksX7_plan_3 12 rfl rfl)
theorem dX7_plan_84 : decode cX7_plan 84 = .ok (.iconst 1, 1) := dk_4 (dk_at dksX7_plan_3 13 rfl rfl)
theorem dX7_plan_85 : decode cX7_plan 85 = .ok (.iadd, 1) := dk_96 (dk_at dksX7_plan_3 14 rfl rfl)
theorem dX7_plan_86 : decode cX7_plan 86 = .ok (.ldc 178, 2) := dk_18 178 (dk_at dksX7_plan_3 15 rfl rfl)
theorem dX7_plan_88 : decode cX7_plan 88 = .ok (.invokevirtual 120, 3) := dk_182 0 120 (dk_at dksX7_plan_3 17 rfl rfl)
theorem dX7_plan_91 : decode cX7_plan 91 = .ok (.istore_n 2, 1) := dk_61 (dk_at dksX7_plan_3 20 rfl rfl)
theorem dX7_plan_92 : decode cX7_plan 92 = .ok (.aload_n 0, 1) := dk_42 (dk_at dksX7_plan_3 21 rfl rfl)
theorem dX7_plan_93 : decode cX7_plan 93 = .ok (.aload_n 1, 1) := dk_43 (dk_at dksX7_plan_3 22 rfl rfl)
theorem dX7_plan_94 : decode cX7_plan 94 = .ok (.getfield 167, 3) := dk_180 0 167 (dk_at dksX7_plan_4 0 rfl rfl)
theorem dX7_plan_97 : decode cX7_plan 97 = .ok (.invokeinterface 157 1, 5) := by decide +kernel
theorem dX7_plan_102 : decode cX7_plan 102 = .ok (.iconst 4, 1) := dk_7 (dk_at dksX7_plan_4 8 rfl rfl)
theorem dX7_plan_103 : decode cX7_plan 103 = .ok (.if_icmp .gt 7, 3) := dk_163 0 7 (dk_at dksX7_plan_4 9 rfl rfl)
theorem dX7_plan_106 : decode cX7_plan 106 = .ok (.iconst 1, 1) := dk_4 (dk_at dksX7_plan_4 12 rfl rfl)
theorem dX7_plan_107 : decode cX7_plan 107 = .ok (.goto 4, 3) := dk_167 0 4 (dk_at dksX7_plan_4 13 rfl rfl)
theorem dX7_plan_110 : decode cX7_plan 110 = .ok (.iconst 0, 1) := dk_3 (dk_at dksX7_plan_4 16 rfl rfl)
theorem dX7_plan_111 : decode cX7_plan 111 = .ok (.iconst 4, 1) := dk_7 (dk_at dksX7_plan_4 17 rfl rfl)
theorem dX7_plan_112 : decode cX7_plan 112 = .ok (.invokevirtual 116, 3) := dk_182 0 116 (dk_at dksX7_plan_4 18 rfl rfl)
theorem dX7_plan_115 : decode cX7_plan 115 = .ok (.aload_n 0, 1) := dk_42 (dk_at dksX7_plan_4 21 rfl rfl)
theorem dX7_plan_116 : decode cX7_plan 116 = .ok (.invokevirtual 50, 3) := dk_182 0 50 (dk_at dksX7_plan_5 0 rfl rfl)
theorem dX7_plan_119 : decode cX7_plan 119 = .ok (.aload_n 1, 1) := dk_43 (dk_at dksX7_plan_5 3 rfl rfl)
theorem dX7_plan_120 : decode cX7_plan 120 = .ok (.getfield 167, 3) := dk_180 0 167 (dk_at dksX7_plan_5 4 rfl rfl)
theorem dX7_plan_123 : decode cX7_plan 123 = .ok (.new 170, 3) := dk_187 0 170 (dk_at dksX7_plan_5 7 rfl rfl)
theorem dX7_plan_126 : decode cX7_plan 126 = .ok (.dup, 1) := dk_89 (dk_at dksX7_plan_5 10 rfl rfl)
theorem dX7_plan_127 : decode cX7_plan 127 = .ok (.ldc2_w 179, 3) := dk_20 0 179 (dk_at dksX7_plan_5 11 rfl rfl)
theorem dX7_plan_130 : decode cX7_plan 130 = .ok (.iload_n 2, 1) := dk_28 (dk_at dksX7_plan_5 14 rfl rfl)
theorem dX7_plan_131 : decode cX7_plan 131 = .ok (.i2l, 1) := dk_133 (dk_at dksX7_plan_5 15 rfl rfl)
theorem dX7_plan_132 : decode cX7_plan 132 = .ok (.lmul, 1) := dk_105 (dk_at dksX7_plan_5 16 rfl rfl)
theorem dX7_plan_133 : decode cX7_plan 133 = .ok (.aload_n 0, 1) := dk_42 (dk_at dksX7_plan_5 17 rfl rfl)
theorem dX7_plan_134 : decode cX7_plan 134 = .ok (.iconst 0, 1) := dk_3 (dk_at dksX7_plan_5 18 rfl rfl)
theorem dX7_plan_135 : decode cX7_plan 135 = .ok (.sipush 3000, 3) := dk_17 11 184 (dk_at dksX7_plan_5 19 rfl rfl)
theorem dX7_plan_138 : decode cX7_plan 138 = .ok (.invokevirtual 164, 3) := dk_182 0 164 (dk_at dksX7_plan_6 0 rfl rfl)
theorem dX7_plan_141 : decode cX7_plan 141 = .ok (.invokespecial 172, 3) := dk_183 0 172 (dk_at dksX7_plan_6 3 rfl rfl)
theorem dX7_plan_144 : decode cX7_plan 144 = .ok (.invokeinterface 175 2, 5) := by decide +kernel
theorem dX7_plan_149 : decode cX7_plan 149 = .ok (.pop, 1) := dk_87 (dk_at dksX7_plan_6 11 rfl rfl)
theorem dX7_plan_150 : decode cX7_plan 150 = .ok (.goto (-76), 3) := dk_167 255 180 (dk_at dksX7_plan_6 12 rfl rfl)
theorem dX7_plan_153 : decode cX7_plan 153 = .ok (.aload_n 0, 1) := dk_42 (dk_at dksX7_plan_6 15 rfl rfl)
theorem dX7_plan_154 : decode cX7_plan 154 = .ok (.getfield 18, 3) := dk_180 0 18 (dk_at dksX7_plan_6 16 rfl rfl)
theorem dX7_plan_157 : decode cX7_plan 157 = .ok (.getfield 153, 3) := dk_180 0 153 (dk_at dksX7_plan_6 19 rfl rfl)
theorem dX7_plan_160 : decode cX7_plan 160 = .ok (.aload_n 1, 1) := dk_43 (dk_at dksX7_plan_6 22 rfl rfl)
theorem dX7_plan_161 : decode cX7_plan 161 = .ok (.invokeinterface 175 2, 5) := by decide +kernel
theorem dX7_plan_166 : decode cX7_plan 166 = .ok (.pop, 1) := dk_87 (dk_at dksX7_plan_7 5 rfl rfl)
theorem dX7_plan_167 : decode cX7_plan 167 = .ok (.return_, 1) := dk_177 (dk_at dksX7_plan_7 6 rfl rfl)
abbrev cX7_franchisee : ByteArray := prog_11_method_13_code
def yX7_franchisee : MethodName := ⟨RX7, "franchisee", "()V"⟩
def dkwX7_franchisee_6 : List UInt8 := [180, 0, 194, 43, 185, 0, 175, 2, 0, 87, 177]
abbrev dktX7_franchisee_6 : List UInt8 := dkwX7_franchisee_6 ++ []
def dkwX7_franchisee_5 : List UInt8 := [89, 28, 42, 3, 17, 3, 231, 182, 0, 164, 183, 0, 193, 185, 0, 175, 2, 0, 87, 42, 180, 0, 18]
abbrev dktX7_franchisee_5 : List UInt8 := dkwX7_franchisee_5 ++ dktX7_franchisee_6
def dkwX7_franchisee_4 : List UInt8 := [180, 0, 153, 185, 0, 157, 1, 0, 4, 100, 182, 0, 164, 61, 42, 180, 0, 27, 180, 0, 181, 187, 0, 191]
abbrev dktX7_franchisee_4 : List UInt8 := dkwX7_franchisee_4 ++ dktX7_franchisee_5
def dkwX7_franchisee_3 : List UInt8 := [4, 167, 0, 4, 3, 6, 182, 0, 116, 42, 180, 0, 33, 76, 42, 182, 0, 50, 42, 3, 42, 180, 0, 18]
abbrev dktX7_franchisee_3 : List UInt8 := dkwX7_franchisee_3 ++ dktX7_franchisee_4
def dkwX7_franchisee_2 : List UInt8 := [167, 0, 4, 3, 4, 182, 0, 116, 42, 42, 180, 0, 18, 42, 180, 0, 33, 182, 0, 187, 2, 160, 0, 7]
abbrev dktX7_franchisee_2 : List UInt8 := dkwX7_franchisee_2 ++ dktX7_franchisee_3
def dkwX7_franchisee_1 : List UInt8 := [182, 0, 116, 42, 182, 0, 50, 42, 42, 180, 0, 79, 4, 160, 0, 14, 42, 182, 0, 184, 154, 0, 7, 4]
abbrev dktX7_franchisee_1 : List UInt8 := dkwX7_franchisee_1 ++ dktX7_franchisee_2
def dkwX7_franchisee_0 : List UInt8 := [42, 42, 180, 0, 27, 180, 0, 181, 185, 0, 157, 1, 0, 16, 8, 162, 0, 7, 4, 167, 0, 4, 3, 7]
abbrev dktX7_franchisee_0 : List UInt8 := dkwX7_franchisee_0 ++ dktX7_franchisee_1
theorem dksX7_franchisee_0 : cX7_franchisee.data.toList.drop 0 = dktX7_franchisee_0 := by decide +kernel
theorem dksX7_franchisee_1 : cX7_franchisee.data.toList.drop 24 = dktX7_franchisee_1 := dk_seg dksX7_franchisee_0 24 rfl rfl
theorem dksX7_franchisee_2 : cX7_franchisee.data.toList.drop 48 = dktX7_franchisee_2 := dk_seg dksX7_franchisee_1 24 rfl rfl
theorem dksX7_franchisee_3 : cX7_franchisee.data.toList.drop 72 = dktX7_franchisee_3 := dk_seg dksX7_franchisee_2 24 rfl rfl
theorem dksX7_franchisee_4 : cX7_franchisee.data.toList.drop 96 = dktX7_franchisee_4 := dk_seg dksX7_franchisee_3 24 rfl rfl
theorem dksX7_franchisee_5 : cX7_franchisee.data.toList.drop 120 = dktX7_franchisee_5 := dk_seg dksX7_franchisee_4 24 rfl rfl
theorem dksX7_franchisee_6 : cX7_franchisee.data.toList.drop 143 = dktX7_franchisee_6 := dk_seg dksX7_franchisee_5 23 rfl rfl
theorem dX7_franchisee_0 : decode cX7_franchisee 0 = .ok (.aload_n 0, 1) := dk_42 (dk_at dksX7_franchisee_0 0 rfl rfl)
theorem dX7_franchisee_1 : decode cX7_franchisee 1 = .ok (.aload_n 0, 1) := dk_42 (dk_at dksX7_franchisee_0 1 rfl rfl)
theorem dX7_franchisee_2 : decode cX7_franchisee 2 = .ok (.getfield 27, 3) := dk_180 0 27 (dk_at dksX7_franchisee_0 2 rfl rfl)
theorem dX7_franchisee_5 : decode cX7_franchisee 5 = .ok (.getfield 181, 3) := dk_180 0 181 (dk_at dksX7_franchisee_0 5 rfl rfl)
theorem dX7_franchisee_8 : decode cX7_franchisee 8 = .ok (.invokeinterface 157 1, 5) := by decide +kernel
theorem dX7_franchisee_13 : decode cX7_franchisee 13 = .ok (.bipush 8, 2) := dk_16 8 (dk_at dksX7_franchisee_0 13 rfl rfl)
theorem dX7_franchisee_15 : decode cX7_franchisee 15 = .ok (.if_icmp .ge 7, 3) := dk_162 0 7 (dk_at dksX7_franchisee_0 15 rfl rfl)
theorem dX7_franchisee_18 : decode cX7_franchisee 18 = .ok (.iconst 1, 1) := dk_4 (dk_at dksX7_franchisee_0 18 rfl rfl)
theorem dX7_franchisee_19 : decode cX7_franchisee 19 = .ok (.goto 4, 3) := dk_167 0 4 (dk_at dksX7_franchisee_0 19 rfl rfl)
theorem dX7_franchisee_22 : decode cX7_franchisee 22 = .ok (.iconst 0, 1) := dk_3 (dk_at dksX7_franchisee_0 22 rfl rfl)
theorem dX7_franchisee_23 : decode cX7_franchisee 23 = .ok (.iconst 4, 1) := dk_7 (dk_at dksX7_franchisee_0 23 rfl rfl)
theorem dX7_franchisee_24 : decode cX7_franchisee 24 = .ok (.invokevirtual 116, 3) := dk_182 0 116 (dk_at dksX7_franchisee_1 0 rfl rfl)
theorem dX7_franchisee_27 : decode cX7_franchisee 27 = .ok (.aload_n 0, 1) := dk_42 (dk_at dksX7_franchisee_1 3 rfl rfl)
theorem dX7_franchisee_28 : decode cX7_franchisee 28 = .ok (.invokevirtual 50, 3) := dk_182 0 50 (dk_at dksX7_franchisee_1 4 rfl rfl)
theorem dX7_franchisee_31 : decode cX7_franchisee 31 = .ok (.aload_n 0, 1) := dk_42 (dk_at dksX7_franchisee_1 7 rfl rfl)
theorem dX7_franchisee_32 : decode cX7_franchisee 32 = .ok (.aload_n 0, 1) := dk_42 (dk_at dksX7_franchisee_1 8 rfl rfl)
theorem dX7_franchisee_33 : decode cX7_franchisee 33 = .ok (.getfield 79, 3) := dk_180 0 79 (dk_at dksX7_franchisee_1 9 rfl rfl)
theorem dX7_franchisee_36 : decode cX7_franchisee 36 = .ok (.iconst 1, 1) := dk_4 (dk_at dksX7_franchisee_1 12 rfl rfl)
theorem dX7_franchisee_37 : decode cX7_franchisee 37 = .ok (.if_icmp .ne 14, 3) := dk_160 0 14 (dk_at dksX7_franchisee_1 13 rfl rfl)
theorem dX7_franchisee_40 : decode cX7_franchisee 40 = .ok (.aload_n 0, 1) := dk_42 (dk_at dksX7_franchisee_1 16 rfl rfl)
theorem dX7_franchisee_41 : decode cX7_franchisee 41 = .ok (.invokevirtual 184, 3) := dk_182 0 184 (dk_at dksX7_franchisee_1 17 rfl rfl)
theorem dX7_franchisee_44 : decode cX7_franchisee 44 = .ok (.ifCond .ne 7, 3) := dk_154 0 7 (dk_at dksX7_franchisee_1 20 rfl rfl)
theorem dX7_franchisee_47 : decode cX7_franchisee 47 = .ok (.iconst 1, 1) := dk_4 (dk_at dksX7_franchisee_1 23 rfl rfl)
theorem dX7_franchisee_48 : decode cX7_franchisee 48 = .ok (.goto 4, 3) := dk_167 0 4 (dk_at dksX7_franchisee_2 0 rfl rfl)
theorem dX7_franchisee_51 : decode cX7_franchisee 51 = .ok (.iconst 0, 1) := dk_3 (dk_at dksX7_franchisee_2 3 rfl rfl)
theorem dX7_franchisee_52 : decode cX7_franchisee 52 = .ok (.iconst 1, 1) := dk_4 (dk_at dksX7_franchisee_2 4 rfl rfl)
theorem dX7_franchisee_53 : decode cX7_franchisee 53 = .ok (.invokevirtual 116, 3) := dk_182 0 116 (dk_at dksX7_franchisee_2 5 rfl rfl)
theorem dX7_franchisee_56 : decode cX7_franchisee 56 = .ok (.aload_n 0, 1) := dk_42 (dk_at dksX7_franchisee_2 8 rfl rfl)
theorem dX7_franchisee_57 : decode cX7_franchisee 57 = .ok (.aload_n 0, 1) := dk_42 (dk_at dksX7_franchisee_2 9 rfl rfl)
theorem dX7_franchisee_58 : decode cX7_franchisee 58 = .ok (.getfield 18, 3) := dk_180 0 18 (dk_at dksX7_franchisee_2 10 rfl rfl)
theorem dX7_franchisee_61 : decode cX7_franchisee 61 = .ok (.aload_n 0, 1) := dk_42 (dk_at dksX7_franchisee_2 13 rfl rfl)
theorem dX7_franchisee_62 : decode cX7_franchisee 62 = .ok (.getfield 33, 3) := dk_180 0 33 (dk_at dksX7_franchisee_2 14 rfl rfl)
theorem dX7_franchisee_65 : decode cX7_franchisee 65 = .ok (.invokevirtual 187, 3) := dk_182 0 187 (dk_at dksX7_franchisee_2 17 rfl rfl)
theorem dX7_franchisee_68 : decode cX7_franchisee 68 = .ok (.iconst (-1), 1) := dk_2 (dk_at dksX7_franchisee_2 20 rfl rfl)
theorem dX7_franchisee_69 : decode cX7_franchisee 69 = .ok (.if_icmp .ne 7, 3) := dk_160 0 7 (dk_at dksX7_franchisee_2 21 rfl rfl)
theorem dX7_franchisee_72 : decode cX7_franchisee 72 = .ok (.iconst 1, 1) := dk_4 (dk_at dksX7_franchisee_3 0 rfl rfl)
theorem dX7_franchisee_73 : decode cX7_franchisee 73 = .ok (.goto 4, 3) := dk_167 0 4 (dk_at dksX7_franchisee_3 1 rfl rfl)
theorem dX7_franchisee_76 : decode cX7_franchisee 76 = .ok (.iconst 0, 1) := dk_3 (dk_at dksX7_franchisee_3 4 rfl rfl)
theorem dX7_franchisee_77 : decode cX7_franchisee 77 = .ok (.iconst 3, 1) := dk_6 (dk_at dksX7_franchisee_3 5 rfl rfl)
theorem dX7_franchisee_78 : decode cX7_franchisee 78 = .ok (.invokevirtual 116, 3) := dk_182 0 116 (dk_at dksX7_franchisee_3 6 rfl rfl)
theorem dX7_franchisee_81 : decode cX7_franchisee 81 = .ok (.aload_n 0, 1) := dk_42 (dk_at dksX7_franchisee_3 9 rfl rfl)
theorem dX7_franchisee_82 : decode cX7_franchisee 82 = .ok (.getfield 33, 3) := dk_180 0 33 (dk_at dksX7_franchisee_3 10 rfl rfl)
theorem dX7_franchisee_85 : decode cX7_franchisee 85 = .ok (.astore_n 1, 1) := dk_76 (dk_at dksX7_franchisee_3 13 rfl rfl)
theorem dX7_franchisee_86 : decode cX7_franchisee 86 = .ok (.aload_n 0, 1) := dk_42 (dk_at dksX7_franchisee_3 14 rfl rfl)
theorem dX7_franchisee_87 : decode cX7_franchisee 87 = .ok (.invokevirtual 50, 3) := dk_182 0 50 (dk_at dksX7_franchisee_3 15 rfl rfl)
theorem dX7_franchisee_90 : decode cX7_franchisee 90 = .ok (.aload_n 0, 1) := dk_42 (dk_at dksX7_franchisee_3 18 rfl rfl)
theorem dX7_franchisee_91 : decode cX7_franchisee 91 = .ok (.iconst 0, 1) := dk_3 (dk_at dksX7_franchisee_3 19 rfl rfl)
theorem dX7_franchisee_92 : decode cX7_franchisee 92 = .ok (.aload_n 0, 1) := dk_42 (dk_at dksX7_franchisee_3 20 rfl rfl)
theorem dX7_franchisee_93 : decode cX7_franchisee 93 = .ok (.getfield 18, 3) := dk_180 0 18 (dk_at dksX7_franchisee_3 21 rfl rfl)
theorem dX7_franchisee_96 : decode cX7_franchisee 96 = .ok (.getfield 153, 3) := dk_180 0 153 (dk_at dksX7_franchisee_4 0 rfl rfl)
theorem dX7_franchisee_99 : decode cX7_franchisee 99 = .ok (.invokeinterface 157 1, 5) := by decide +kernel
theorem dX7_franchisee_104 : decode cX7_franchisee 104 = .ok (.iconst 1, 1) := dk_4 (dk_at dksX7_franchisee_4 8 rfl rfl)
theorem dX7_franchisee_105 : decode cX7_franchisee 105 = .ok (.isub, 1) := dk_100 (dk_at dksX7_franchisee_4 9 rfl rfl)
theorem dX7_franchisee_106 : decode cX7_franchisee 106 = .ok (.invokevirtual 164, 3) := dk_182 0 164 (dk_at dksX7_franchisee_4 10 rfl rfl)
theorem dX7_franchisee_109 : decode cX7_franchisee 109 = .ok (.istore_n 2, 1) := dk_61 (dk_at dksX7_franchisee_4 13 rfl rfl)
theorem dX7_franchisee_110 : decode cX7_franchisee 110 = .ok (.aload_n 0, 1) := dk_42 (dk_at dksX7_franchisee_4 14 rfl rfl)
theorem dX7_franchisee_111 : decode cX7_franchisee 111 = .ok (.getfield 27, 3) := dk_180 0 27 (dk_at dksX7_franchisee_4 15 rfl rfl)
theorem dX7_franchisee_114 : decode cX7_franchisee 114 = .ok (.getfield 181, 3) := dk_180 0 181 (dk_at dksX7_franchisee_4 18 rfl rfl)
theorem dX7_franchisee_117 : decode cX7_franchisee 117 = .ok (.new 191, 3) := dk_187 0 191 (dk_at dksX7_franchisee_4 21 rfl rfl)
theorem dX7_franchisee_120 : decode cX7_franchisee 120 = .ok (.dup, 1) := dk_89 (dk_at dksX7_franchisee_5 0 rfl rfl)
theorem dX7_franchisee_121 : decode cX7_franchisee 121 = .ok (.iload_n 2, 1) := dk_28 (dk_at dksX7_franchisee_5 1 rfl rfl)
theorem dX7_franchisee_122 : decode cX7_franchisee 122 = .ok (.aload_n 0, 1) := dk_42 (dk_at dksX7_franchisee_5 2 rfl rfl)
theorem dX7_franchisee_123 : decode cX7_franchisee 123 = .ok (.iconst 0, 1) := dk_3 (dk_at dksX7_franchisee_5 3 rfl rfl)
theorem dX7_franchisee_124 : decode cX7_franchisee 124 = .ok (.sipush 999, 3) := dk_17 3 231 (dk_at dksX7_franchisee_5 4 rfl rfl)
theorem dX7_franchisee_127 : decode cX7_franchisee 127 = .ok (.invokevirtual 164, 3) := dk_182 0 164 (dk_at dksX7_franchisee_5 7 rfl rfl)
theorem dX7_franchisee_130 : decode cX7_franchisee 130 = .ok (.invokespecial 193, 3) := dk_183 0 193 (dk_at dksX7_franchisee_5 10 rfl rfl)
theorem dX7_franchisee_133 : decode cX7_franchisee 133 = .ok (.invokeinterface 175 2, 5) := by decide +kernel
theorem dX7_franchisee_138 : decode cX7_franchisee 138 = .ok (.pop, 1) := dk_87 (dk_at dksX7_franchisee_5 18 rfl rfl)
theorem dX7_franchisee_139 : decode cX7_franchisee 139 = .ok (.aload_n 0, 1) := dk_42 (dk_at dksX7_franchisee_5 19 rfl rfl)
theorem dX7_franchisee_140 : decode cX7_franchisee 140 = .ok (.getfield 18, 3) := dk_180 0 18 (dk_at dksX7_franchisee_5 20 rfl rfl)
theorem dX7_franchisee_143 : decode cX7_franchisee 143 = .ok (.getfield 194, 3) := dk_180 0 194 (dk_at dksX7_franchisee_6 0 rfl rfl)
theorem dX7_franchisee_146 : decode cX7_franchisee 146 = .ok (.aload_n 1, 1) := dk_43 (dk_at dksX7_franchisee_6 3 rfl rfl)
theorem dX7_franchisee_147 : decode cX7_franchisee 147 = .ok (.invokeinterface 175 2, 5) := by decide +kernel
theorem dX7_franchisee_152 : decode cX7_franchisee 152 = .ok (.pop, 1) := dk_87 (dk_at dksX7_franchisee_6 9 rfl rfl)
theorem dX7_franchisee_153 : decode cX7_franchisee 153 = .ok (.return_, 1) := dk_177 (dk_at dksX7_franchisee_6 10 rfl rfl)
abbrev cX7_area : ByteArray := prog_11_method_17_code
def yX7_area : MethodName := ⟨RX7, "area", "()V"⟩
def dkwX7_area_4 : List UInt8 := [42, 180, 0, 27, 180, 0, 207, 180, 0, 211, 21, 6, 27, 145, 84, 132, 6, 1, 167, 255, 220, 177]
abbrev dktX7_area_4 : List UInt8 := dkwX7_area_4 ++ []
def dkwX7_area_3 : List UInt8 := [182, 0, 50, 3, 54, 6, 21, 6, 17, 3, 132, 162, 0, 34, 25, 5, 21, 6, 182, 0, 201, 153, 0, 18]
abbrev dktX7_area_3 : List UInt8 := dkwX7_area_3 ++ dktX7_area_4
def dkwX7_area_2 : List UInt8 := [16, 30, 182, 0, 120, 183, 0, 218, 58, 5, 42, 42, 27, 25, 5, 182, 0, 221, 8, 182, 0, 116, 42]
abbrev dktX7_area_2 : List UInt8 := dkwX7_area_2 ++ dktX7_area_3
def dkwX7_area_1 : List UInt8 := [62, 42, 28, 4, 96, 16, 30, 182, 0, 164, 54, 4, 187, 0, 202, 89, 28, 29, 21, 4, 42, 29, 4, 96]
abbrev dktX7_area_1 : List UInt8 := dkwX7_area_1 ++ dktX7_area_2
def dkwX7_area_0 : List UInt8 := [42, 182, 0, 50, 42, 182, 0, 216, 60, 42, 3, 16, 29, 182, 0, 164, 61, 42, 3, 16, 29, 182, 0, 164]
abbrev dktX7_area_0 : List UInt8 := dkwX7_area_0 ++ dktX7_area_1
theorem dksX7_area_0 : cX7_area.data.toList.drop 0 = dktX7_area_0 := by decide +kernel
theorem dksX7_area_1 : cX7_area.data.toList.drop 24 = dktX7_area_1 := dk_seg dksX7_area_0 24 rfl rfl
theorem dksX7_area_2 : cX7_area.data.toList.drop 48 = dktX7_area_2 := dk_seg dksX7_area_1 24 rfl rfl
theorem dksX7_area_3 : cX7_area.data.toList.drop 71 = dktX7_area_3 := dk_seg dksX7_area_2 23 rfl rfl
theorem dksX7_area_4 : cX7_area.data.toList.drop 95 = dktX7_area_4 := dk_seg dksX7_area_3 24 rfl rfl
theorem dX7_area_0 : decode cX7_area 0 = .ok (.aload_n 0, 1) := dk_42 (dk_at dksX7_area_0 0 rfl rfl)
theorem dX7_area_1 : decode cX7_area 1 = .ok (.invokevirtual 50, 3) := dk_182 0 50 (dk_at dksX7_area_0 1 rfl rfl)
theorem dX7_area_4 : decode cX7_area 4 = .ok (.aload_n 0, 1) := dk_42 (dk_at dksX7_area_0 4 rfl rfl)
theorem dX7_area_5 : decode cX7_area 5 = .ok (.invokevirtual 216, 3) := dk_182 0 216 (dk_at dksX7_area_0 5 rfl rfl)
theorem dX7_area_8 : decode cX7_area 8 = .ok (.istore_n 1, 1) := dk_60 (dk_at dksX7_area_0 8 rfl rfl)
theorem dX7_area_9 : decode cX7_area 9 = .ok (.aload_n 0, 1) := dk_42 (dk_at dksX7_area_0 9 rfl rfl)
theorem dX7_area_10 : decode cX7_area 10 = .ok (.iconst 0, 1) := dk_3 (dk_at dksX7_area_0 10 rfl rfl)
theorem dX7_area_11 : decode cX7_area 11 = .ok (.bipush 29, 2) := dk_16 29 (dk_at dksX7_area_0 11 rfl rfl)
theorem dX7_area_13 : decode cX7_area 13 = .ok (.invokevirtual 164, 3) := dk_182 0 164 (dk_at dksX7_area_0 13 rfl rfl)
theorem dX7_area_16 : decode cX7_area 16 = .ok (.istore_n 2, 1) := dk_61 (dk_at dksX7_area_0 16 rfl rfl)
theorem dX7_area_17 : decode cX7_area 17 = .ok (.aload_n 0, 1) := dk_42 (dk_at dksX7_area_0 17 rfl rfl)
theorem dX7_area_18 : decode cX7_area 18 = .ok (.iconst 0, 1) := dk_3 (dk_at dksX7_area_0 18 rfl rfl)
theorem dX7_area_19 : decode cX7_area 19 = .ok (.bipush 29, 2) := dk_16 29 (dk_at dksX7_area_0 19 rfl rfl)
theorem dX7_area_21 : decode cX7_area 21 = .ok (.invokevirtual 164, 3) := dk_182 0 164 (dk_at dksX7_area_0 21 rfl rfl)
theorem dX7_area_24 : decode cX7_area 24 = .ok (.istore_n 3, 1) := dk_62 (dk_at dksX7_area_1 0 rfl rfl)
theorem dX7_area_25 : decode cX7_area 25 = .ok (.aload_n 0, 1) := dk_42 (dk_at dksX7_area_1 1 rfl rfl)
theorem dX7_area_26 : decode cX7_area 26 = .ok (.iload_n 2, 1) := dk_28 (dk_at dksX7_area_1 2 rfl rfl)
theorem dX7_area_27 : decode cX7_area 27 = .ok (.iconst 1, 1) := dk_4 (dk_at dksX7_area_1 3 rfl rfl)
theorem dX7_area_28 : decode cX7_area 28 = .ok (.iadd, 1) := dk_96 (dk_at dksX7_area_1 4 rfl rfl)
theorem dX7_area_29 : decode cX7_area 29 = .ok (.bipush 30, 2) := dk_16 30 (dk_at dksX7_area_1 5 rfl rfl)
theorem dX7_area_31 : decode cX7_area 31 = .ok (.invokevirtual 164, 3) := dk_182 0 164 (dk_at dksX7_area_1 7 rfl rfl)
theorem dX7_area_34 : decode cX7_area 34 = .ok (.istore 4, 2) := dk_54 4 (dk_at dksX7_area_1 10 rfl rfl)
theorem dX7_area_36 : decode cX7_area 36 = .ok (.new 202, 3) := dk_187 0 202 (dk_at dksX7_area_1 12 rfl rfl)
theorem dX7_area_39 : decode cX7_area 39 = .ok (.dup, 1) := dk_89 (dk_at dksX7_area_1 15 rfl rfl)
theorem dX7_area_40 : decode cX7_area 40 = .ok (.iload_n 2, 1) := dk_28 (dk_at dksX7_area_1 16 rfl rfl)
theorem dX7_area_41 : decode cX7_area 41 = .ok (.iload_n 3, 1) := dk_29 (dk_at dksX7_area_1 17 rfl rfl)
theorem dX7_area_42 : decode cX7_area 42 = .ok (.iload 4, 2) := dk_21 4 (dk_at dksX7_area_1 18 rfl rfl)
theorem dX7_area_44 : decode cX7_area 44 = .ok (.aload_n 0, 1) := dk_42 (dk_at dksX7_area_1 20 rfl rfl)
theorem dX7_area_45 : decode cX7_area 45 = .ok (.iload_n 3, 1) := dk_29 (dk_at dksX7_area_1 21 rfl rfl)
theorem dX7_area_46 : decode cX7_area 46 = .ok (.iconst 1, 1) := dk_4 (dk_at dksX7_area_1 22 rfl rfl)
theorem dX7_area_47 : decode cX7_area 47 = .ok (.iadd, 1) := dk_96 (dk_at dksX7_area_1 23 rfl rfl)
theorem dX7_area_48 : decode cX7_area 48 = .ok (.bipush 30, 2) := dk_16 30 (dk_at dksX7_area_2 0 rfl rfl)
theorem dX7_area_50 : decode cX7_area 50 = .ok (.invokevirtual 120, 3) := dk_182 0 120 (dk_at dksX7_area_2 2 rfl rfl)
theorem dX7_area_53 : decode cX7_area 53 = .ok (.invokespecial 218, 3) := dk_183 0 218 (dk_at dksX7_area_2 5 rfl rfl)
theorem dX7_area_56 : decode cX7_area 56 = .ok (.astore 5, 2) := dk_58 5 (dk_at dksX7_area_2 8 rfl rfl)
theorem dX7_area_58 : decode cX7_area 58 = .ok (.aload_n 0, 1) := dk_42 (dk_at dksX7_area_2 10 rfl rfl)
theorem dX7_area_59 : decode cX7_area 59 = .ok (.aload_n 0, 1) := dk_42 (dk_at dksX7_area_2 11 rfl rfl)
theorem dX7_area_60 : decode cX7_area 60 = .ok (.iload_n 1, 1) := dk_27 (dk_at dksX7_area_2 12 rfl rfl)
theorem dX7_area_61 : decode cX7_area 61 = .ok (.aload 5, 2) := dk_25 5 (dk_at dksX7_area_2 13 rfl rfl)
theorem dX7_area_63 : decode cX7_area 63 = .ok (.invokevirtual 221, 3) := dk_182 0 221 (dk_at dksX7_area_2 15 rfl rfl)
theorem dX7_area_66 : decode cX7_area 66 = .ok (.iconst 5, 1) := dk_8 (dk_at dksX7_area_2 18 rfl rfl)
theorem dX7_area_67 : decode cX7_area 67 = .ok (.invokevirtual 116, 3) := dk_182 0 116 (dk_at dksX7_area_2 19 rfl rfl)
theorem dX7_area_70 : decode cX7_area 70 = .ok (.aload_n 0, 1) := dk_42 (dk_at dksX7_area_2 22 rfl rfl)
theorem dX7_area_71 : decode cX7_area 71 = .ok (.invokevirtual 50, 3) := dk_182 0 50 (dk_at dksX7_area_3 0 rfl rfl)
theorem dX7_area_74 : decode cX7_area 74 = .ok (.iconst 0, 1) := dk_3 (dk_at dksX7_area_3 3 rfl rfl)
theorem dX7_area_75 : decode cX7_area 75 = .ok (.istore 6, 2) := dk_54 6 (dk_at dksX7_area_3 4 rfl rfl)
theorem dX7_area_77 : decode cX7_area 77 = .ok (.iload 6, 2) := dk_21 6 (dk_at dksX7_area_3 6 rfl rfl)
theorem dX7_area_79 : decode cX7_area 79 = .ok (.sipush 900, 3) := dk_17 3 132 (dk_at dksX7_area_3 8 rfl rfl)
theorem dX7_area_82 : decode cX7_area 82 = .ok (.if_icmp .ge 34, 3) := dk_162 0 34 (dk_at dksX7_area_3 11 rfl rfl)
theorem dX7_area_85 : decode cX7_area 85 = .ok (.aload 5, 2) := dk_25 5 (dk_at dksX7_area_3 14 rfl rfl)
theorem dX7_area_87 : decode cX7_area 87 = .ok (.iload 6, 2) := dk_21 6 (dk_at dksX7_area_3 16 rfl rfl)
theorem dX7_area_89 : decode cX7_area 89 = .ok (.invokevirtual 201, 3) := dk_182 0 201 (dk_at dksX7_area_3 18 rfl rfl)
theorem dX7_area_92 : decode cX7_area 92 = .ok (.ifCond .eq 18, 3) := dk_153 0 18 (dk_at dksX7_area_3 21 rfl rfl)
theorem dX7_area_95 : decode cX7_area 95 = .ok (.aload_n 0, 1) := dk_42 (dk_at dksX7_area_4 0 rfl rfl)
theorem dX7_area_96 : decode cX7_area 96 = .ok (.getfield 27, 3) := dk_180 0 27 (dk_at dksX7_area_4 1 rfl rfl)
theorem dX7_area_99 : decode cX7_area 99 = .ok (.getfield 207, 3) := dk_180 0 207 (dk_at dksX7_area_4 4 rfl rfl)
theorem dX7_area_102 : decode cX7_area 102 = .ok (.getfield 211, 3) := dk_180 0 211 (dk_at dksX7_area_4 7 rfl rfl)
theorem dX7_area_105 : decode cX7_area 105 = .ok (.iload 6, 2) := dk_21 6 (dk_at dksX7_area_4 10 rfl rfl)
theorem dX7_area_107 : decode cX7_area 107 = .ok (.iload_n 1, 1) := dk_27 (dk_at dksX7_area_4 12 rfl rfl)
theorem dX7_area_108 : decode cX7_area 108 = .ok (.i2b, 1) := dk_145 (dk_at dksX7_area_4 13 rfl rfl)
theorem dX7_area_109 : decode cX7_area 109 = .ok (.bastore, 1) := dk_84 (dk_at dksX7_area_4 14 rfl rfl)
theorem dX7_area_110 : decode cX7_area 110 = .ok (.iinc 6 1, 3) := dk_132 6 1 (dk_at dksX7_area_4 15 rfl rfl)
theorem dX7_area_113 : decode cX7_area 113 = .ok (.goto (-36), 3) := dk_167 255 220 (dk_at dksX7_area_4 18 rfl rfl)
theorem dX7_area_116 : decode cX7_area 116 = .ok (.return_, 1) := dk_177 (dk_at dksX7_area_4 21 rfl rfl)
abbrev cX7_named : ByteArray := prog_11_method_14_code
def yX7_named : MethodName := ⟨RX7, "named", "()I"⟩
def dkwX7_named_0 : List UInt8 := [42, 42, 180, 0, 18, 182, 0, 197, 172]
abbrev dktX7_named_0 : List UInt8 := dkwX7_named_0 ++ []
theorem dksX7_named_0 : cX7_named.data.toList.drop 0 = dktX7_named_0 := by decide +kernel
theorem dX7_named_0 : decode cX7_named 0 = .ok (.aload_n 0, 1) := dk_42 (dk_at dksX7_named_0 0 rfl rfl)
theorem dX7_named_1 : decode cX7_named 1 = .ok (.aload_n 0, 1) := dk_42 (dk_at dksX7_named_0 1 rfl rfl)
theorem dX7_named_2 : decode cX7_named 2 = .ok (.getfield 18, 3) := dk_180 0 18 (dk_at dksX7_named_0 2 rfl rfl)
theorem dX7_named_5 : decode cX7_named 5 = .ok (.invokevirtual 197, 3) := dk_182 0 197 (dk_at dksX7_named_0 5 rfl rfl)
theorem dX7_named_8 : decode cX7_named 8 = .ok (.ireturn, 1) := dk_172 (dk_at dksX7_named_0 8 rfl rfl)
abbrev cX7_isFreeFor : ByteArray := prog_11_method_16_code
def yX7_isFreeFor : MethodName := ⟨RX7, "isFreeFor", "(ILFranchiseLedger$Area;)Z"⟩
def dkwX7_isFreeFor_2 : List UInt8 := [159, 0, 5, 3, 172, 132, 3, 1, 167, 255, 204, 4, 172]
abbrev dktX7_isFreeFor_2 : List UInt8 := dkwX7_isFreeFor_2 ++ []
def dkwX7_isFreeFor_1 : List UInt8 := [180, 0, 211, 29, 51, 2, 159, 0, 21, 42, 180, 0, 27, 180, 0, 207, 180, 0, 211, 29, 51, 27]
abbrev dktX7_isFreeFor_1 : List UInt8 := dkwX7_isFreeFor_1 ++ dktX7_isFreeFor_2
def dkwX7_isFreeFor_0 : List UInt8 := [3, 62, 29, 17, 3, 132, 162, 0, 51, 44, 29, 182, 0, 201, 153, 0, 37, 42, 180, 0, 27, 180, 0, 207]
abbrev dktX7_isFreeFor_0 : List UInt8 := dkwX7_isFreeFor_0 ++ dktX7_isFreeFor_1
theorem dksX7_isFreeFor_0 : cX7_isFreeFor.data.toList.drop 0 = dktX7_isFreeFor_0 := by decide +kernel
theorem dksX7_isFreeFor_1 : cX7_isFreeFor.data.toList.drop 24 = dktX7_isFreeFor_1 := dk_seg dksX7_isFreeFor_0 24 rfl rfl
theorem dksX7_isFreeFor_2 : cX7_isFreeFor.data.toList.drop 46 = dktX7_isFreeFor_2 := dk_seg dksX7_isFreeFor_1 22 rfl rfl
theorem dX7_isFreeFor_0 : decode cX7_isFreeFor 0 = .ok (.iconst 0, 1) := dk_3 (dk_at dksX7_isFreeFor_0 0 rfl rfl)
theorem dX7_isFreeFor_1 : decode cX7_isFreeFor 1 = .ok (.istore_n 3, 1) := dk_62 (dk_at dksX7_isFreeFor_0 1 rfl rfl)
theorem dX7_isFreeFor_2 : decode cX7_isFreeFor 2 = .ok (.iload_n 3, 1) := dk_29 (dk_at dksX7_isFreeFor_0 2 rfl rfl)
theorem dX7_isFreeFor_3 : decode cX7_isFreeFor 3 = .ok (.sipush 900, 3) := dk_17 3 132 (dk_at dksX7_isFreeFor_0 3 rfl rfl)
theorem dX7_isFreeFor_6 : decode cX7_isFreeFor 6 = .ok (.if_icmp .ge 51, 3) := dk_162 0 51 (dk_at dksX7_isFreeFor_0 6 rfl rfl)
theorem dX7_isFreeFor_9 : decode cX7_isFreeFor 9 = .ok (.aload_n 2, 1) := dk_44 (dk_at dksX7_isFreeFor_0 9 rfl rfl)
theorem dX7_isFreeFor_10 : decode cX7_isFreeFor 10 = .ok (.iload_n 3, 1) := dk_29 (dk_at dksX7_isFreeFor_0 10 rfl rfl)
theorem dX7_isFreeFor_11 : decode cX7_isFreeFor 11 = .ok (.invokevirtual 201, 3) := dk_182 0 201 (dk_at dksX7_isFreeFor_0 11 rfl rfl)
theorem dX7_isFreeFor_14 : decode cX7_isFreeFor 14 = .ok (.ifCond .eq 37, 3) := dk_153 0 37 (dk_at dksX7_isFreeFor_0 14 rfl rfl)
theorem dX7_isFreeFor_17 : decode cX7_isFreeFor 17 = .ok (.aload_n 0, 1) := dk_42 (dk_at dksX7_isFreeFor_0 17 rfl rfl)
theorem dX7_isFreeFor_18 : decode cX7_isFreeFor 18 = .ok (.getfield 27, 3) := dk_180 0 27 (dk_at dksX7_isFreeFor_0 18 rfl rfl)
theorem dX7_isFreeFor_21 : decode cX7_isFreeFor 21 = .ok (.getfield 207, 3) := dk_180 0 207 (dk_at dksX7_isFreeFor_0 21 rfl rfl)
theorem dX7_isFreeFor_24 : decode cX7_isFreeFor 24 = .ok (.getfield 211, 3) := dk_180 0 211 (dk_at dksX7_isFreeFor_1 0 rfl rfl)
theorem dX7_isFreeFor_27 : decode cX7_isFreeFor 27 = .ok (.iload_n 3, 1) := dk_29 (dk_at dksX7_isFreeFor_1 3 rfl rfl)
theorem dX7_isFreeFor_28 : decode cX7_isFreeFor 28 = .ok (.baload, 1) := dk_51 (dk_at dksX7_isFreeFor_1 4 rfl rfl)
theorem dX7_isFreeFor_29 : decode cX7_isFreeFor 29 = .ok (.iconst (-1), 1) := dk_2 (dk_at dksX7_isFreeFor_1 5 rfl rfl)
theorem dX7_isFreeFor_30 : decode cX7_isFreeFor 30 = .ok (.if_icmp .eq 21, 3) := dk_159 0 21 (dk_at dksX7_isFreeFor_1 6 rfl rfl)
theorem dX7_isFreeFor_33 : decode cX7_isFreeFor 33 = .ok (.aload_n 0, 1) := dk_42 (dk_at dksX7_isFreeFor_1 9 rfl rfl)
theorem dX7_isFreeFor_34 : decode cX7_isFreeFor 34 = .ok (.getfield 27, 3) := dk_180 0 27 (dk_at dksX7_isFreeFor_1 10 rfl rfl)
theorem dX7_isFreeFor_37 : decode cX7_isFreeFor 37 = .ok (.getfield 207, 3) := dk_180 0 207 (dk_at dksX7_isFreeFor_1 13 rfl rfl)
theorem dX7_isFreeFor_40 : decode cX7_isFreeFor 40 = .ok (.getfield 211, 3) := dk_180 0 211 (dk_at dksX7_isFreeFor_1 16 rfl rfl)
theorem dX7_isFreeFor_43 : decode cX7_isFreeFor 43 = .ok (.iload_n 3, 1) := dk_29 (dk_at dksX7_isFreeFor_1 19 rfl rfl)
theorem dX7_isFreeFor_44 : decode cX7_isFreeFor 44 = .ok (.baload, 1) := dk_51 (dk_at dksX7_isFreeFor_1 20 rfl rfl)
theorem dX7_isFreeFor_45 : decode cX7_isFreeFor 45 = .ok (.iload_n 1, 1) := dk_27 (dk_at dksX7_isFreeFor_1 21 rfl rfl)
theorem dX7_isFreeFor_46 : decode cX7_isFreeFor 46 = .ok (.if_icmp .eq 5, 3) := dk_159 0 5 (dk_at dksX7_isFreeFor_2 0 rfl rfl)
theorem dX7_isFreeFor_49 : decode cX7_isFreeFor 49 = .ok (.iconst 0, 1) := dk_3 (dk_at dksX7_isFreeFor_2 3 rfl rfl)
theorem dX7_isFreeFor_50 : decode cX7_isFreeFor 50 = .ok (.ireturn, 1) := dk_172 (dk_at dksX7_isFreeFor_2 4 rfl rfl)
theorem dX7_isFreeFor_51 : decode cX7_isFreeFor 51 = .ok (.iinc 3 1, 3) := dk_132 3 1 (dk_at dksX7_isFreeFor_2 5 rfl rfl)
theorem dX7_isFreeFor_54 : decode cX7_isFreeFor 54 = .ok (.goto (-52), 3) := dk_167 255 204 (dk_at dksX7_isFreeFor_2 8 rfl rfl)
theorem dX7_isFreeFor_57 : decode cX7_isFreeFor 57 = .ok (.iconst 1, 1) := dk_4 (dk_at dksX7_isFreeFor_2 11 rfl rfl)
theorem dX7_isFreeFor_58 : decode cX7_isFreeFor 58 = .ok (.ireturn, 1) := dk_172 (dk_at dksX7_isFreeFor_2 12 rfl rfl)
abbrev cX7_outlet : ByteArray := prog_11_method_18_code
def yX7_outlet : MethodName := ⟨RX7, "outlet", "()V"⟩
def dkwX7_outlet_5 : List UInt8 := [87, 177]
abbrev dktX7_outlet_5 : List UInt8 := dkwX7_outlet_5 ++ []
def dkwX7_outlet_4 : List UInt8 := [182, 0, 50, 42, 180, 0, 27, 180, 0, 225, 187, 0, 234, 89, 29, 27, 183, 0, 236, 185, 0, 175, 2, 0]
abbrev dktX7_outlet_4 : List UInt8 := dkwX7_outlet_4 ++ dktX7_outlet_5
def dkwX7_outlet_3 : List UInt8 := [160, 0, 18, 42, 180, 0, 27, 29, 182, 0, 231, 154, 0, 7, 4, 167, 0, 4, 3, 8, 182, 0, 116, 42]
abbrev dktX7_outlet_3 : List UInt8 := dkwX7_outlet_3 ++ dktX7_outlet_4
def dkwX7_outlet_2 : List UInt8 := [16, 29, 182, 0, 120, 184, 0, 228, 62, 42, 42, 180, 0, 27, 180, 0, 207, 180, 0, 211, 29, 51, 27]
abbrev dktX7_outlet_2 : List UInt8 := dkwX7_outlet_2 ++ dktX7_outlet_3
def dkwX7_outlet_1 : List UInt8 := [182, 0, 116, 42, 182, 0, 50, 42, 182, 0, 216, 60, 42, 3, 16, 29, 182, 0, 164, 61, 28, 42, 3]
abbrev dktX7_outlet_1 : List UInt8 := dkwX7_outlet_1 ++ dktX7_outlet_2
def dkwX7_outlet_0 : List UInt8 := [42, 42, 180, 0, 27, 180, 0, 225, 185, 0, 157, 1, 0, 16, 16, 162, 0, 7, 4, 167, 0, 4, 3, 7]
abbrev dktX7_outlet_0 : List UInt8 := dkwX7_outlet_0 ++ dktX7_outlet_1
theorem dksX7_outlet_0 : cX7_outlet.data.toList.drop 0 = dktX7_outlet_0 := by decide +kernel
theorem dksX7_outlet_1 : cX7_outlet.data.toList.drop 24 = dktX7_outlet_1 := dk_seg dksX7_outlet_0 24 rfl rfl
theorem dksX7_outlet_2 : cX7_outlet.data.toList.drop 47 = dktX7_outlet_2 := dk_seg dksX7_outlet_1 23 rfl rfl
theorem dksX7_outlet_3 : cX7_outlet.data.toList.drop 70 = dktX7_outlet_3 := dk_seg dksX7_outlet_2 23 rfl rfl
theorem dksX7_outlet_4 : cX7_outlet.data.toList.drop 94 = dktX7_outlet_4 := dk_seg dksX7_outlet_3 24 rfl rfl
theorem dksX7_outlet_5 : cX7_outlet.data.toList.drop 118 = dktX7_outlet_5 := dk_seg dksX7_outlet_4 24 rfl rfl
theorem dX7_outlet_0 : decode cX7_outlet 0 = .ok (.aload_n 0, 1) := dk_42 (dk_at dksX7_outlet_0 0 rfl rfl)
theorem dX7_outlet_1 : decode cX7_outlet 1 = .ok (.aload_n 0, 1) := dk_42 (dk_at dksX7_outlet_0 1 rfl rfl)
theorem dX7_outlet_2 : decode cX7_outlet 2 = .ok (.getfield 27, 3) := dk_180 0 27 (dk_at dksX7_outlet_0 2 rfl rfl)
theorem dX7_outlet_5 : decode cX7_outlet 5 = .ok (.getfield 225, 3) := dk_180 0 225 (dk_at dksX7_outlet_0 5 rfl rfl)
theorem dX7_outlet_8 : decode cX7_outlet 8 = .ok (.invokeinterface 157 1, 5) := by decide +kernel
theorem dX7_outlet_13 : decode cX7_outlet 13 = .ok (.bipush 16, 2) := dk_16 16 (dk_at dksX7_outlet_0 13 rfl rfl)
theorem dX7_outlet_15 : decode cX7_outlet 15 = .ok (.if_icmp .ge 7, 3) := dk_162 0 7 (dk_at dksX7_outlet_0 15 rfl rfl)
theorem dX7_outlet_18 : decode cX7_outlet 18 = .ok (.iconst 1, 1) := dk_4 (dk_at dksX7_outlet_0 18 rfl rfl)
theorem dX7_outlet_19 : decode cX7_outlet 19 = .ok (.goto 4, 3) := dk_167 0 4 (dk_at dksX7_outlet_0 19 rfl rfl)
theorem dX7_outlet_22 : decode cX7_outlet 22 = .ok (.iconst 0, 1) := dk_3 (dk_at dksX7_outlet_0 22 rfl rfl)
theorem dX7_outlet_23 : decode cX7_outlet 23 = .ok (.iconst 4, 1) := dk_7 (dk_at dksX7_outlet_0 23 rfl rfl)
theorem dX7_outlet_24 : decode cX7_outlet 24 = .ok (.invokevirtual 116, 3) := dk_182 0 116 (dk_at dksX7_outlet_1 0 rfl rfl)
theorem dX7_outlet_27 : decode cX7_outlet 27 = .ok (.aload_n 0, 1) := dk_42 (dk_at dksX7_outlet_1 3 rfl rfl)
theorem dX7_outlet_28 : decode cX7_outlet 28 = .ok (.invokevirtual 50, 3) := dk_182 0 50 (dk_at dksX7_outlet_1 4 rfl rfl)
theorem dX7_outlet_31 : decode cX7_outlet 31 = .ok (.aload_n 0, 1) := dk_42 (dk_at dksX7_outlet_1 7 rfl rfl)
theorem dX7_outlet_32 : decode cX7_outlet 32 = .ok (.invokevirtual 216, 3) := dk_182 0 216 (dk_at dksX7_outlet_1 8 rfl rfl)
theorem dX7_outlet_35 : decode cX7_outlet 35 = .ok (.istore_n 1, 1) := dk_60 (dk_at dksX7_outlet_1 11 rfl rfl)
theorem dX7_outlet_36 : decode cX7_outlet 36 = .ok (.aload_n 0, 1) := dk_42 (dk_at dksX7_outlet_1 12 rfl rfl)
theorem dX7_outlet_37 : decode cX7_outlet 37 = .ok (.iconst 0, 1) := dk_3 (dk_at dksX7_outlet_1 13 rfl rfl)
theorem dX7_outlet_38 : decode cX7_outlet 38 = .ok (.bipush 29, 2) := dk_16 29 (dk_at dksX7_outlet_1 14 rfl rfl)
theorem dX7_outlet_40 : decode cX7_outlet 40 = .ok (.invokevirtual 164, 3) := dk_182 0 164 (dk_at dksX7_outlet_1 16 rfl rfl)
theorem dX7_outlet_43 : decode cX7_outlet 43 = .ok (.istore_n 2, 1) := dk_61 (dk_at dksX7_outlet_1 19 rfl rfl)
theorem dX7_outlet_44 : decode cX7_outlet 44 = .ok (.iload_n 2, 1) := dk_28 (dk_at dksX7_outlet_1 20 rfl rfl)
theorem dX7_outlet_45 : decode cX7_outlet 45 = .ok (.aload_n 0, 1) := dk_42 (dk_at dksX7_outlet_1 21 rfl rfl)
theorem dX7_outlet_46 : decode cX7_outlet 46 = .ok (.iconst 0, 1) := dk_3 (dk_at dksX7_outlet_1 22 rfl rfl)
theorem dX7_outlet_47 : decode cX7_outlet 47 = .ok (.bipush 29, 2) := dk_16 29 (dk_at dksX7_outlet_2 0 rfl rfl)
theorem dX7_outlet_49 : decode cX7_outlet 49 = .ok (.invokevirtual 120, 3) := dk_182 0 120 (dk_at dksX7_outlet_2 2 rfl rfl)
theorem dX7_outlet_52 : decode cX7_outlet 52 = .ok (.invokestatic 228, 3) := dk_184 0 228 (dk_at dksX7_outlet_2 5 rfl rfl)
theorem dX7_outlet_55 : decode cX7_outlet 55 = .ok (.istore_n 3, 1) := dk_62 (dk_at dksX7_outlet_2 8 rfl rfl)
theorem dX7_outlet_56 : decode cX7_outlet 56 = .ok (.aload_n 0, 1) := dk_42 (dk_at dksX7_outlet_2 9 rfl rfl)
theorem dX7_outlet_57 : decode cX7_outlet 57 = .ok (.aload_n 0, 1) := dk_42 (dk_at dksX7_outlet_2 10 rfl rfl)
theorem dX7_outlet_58 : decode cX7_outlet 58 = .ok (.getfield 27, 3) := dk_180 0 27 (dk_at dksX7_outlet_2 11 rfl rfl)
theorem dX7_outlet_61 : decode cX7_outlet 61 = .ok (.getfield 207, 3) := dk_180 0 207 (dk_at dksX7_outlet_2 14 rfl rfl)
theorem dX7_outlet_64 : decode cX7_outlet 64 = .ok (.getfield 211, 3) := dk_180 0 211 (dk_at dksX7_outlet_2 17 rfl rfl)
theorem dX7_outlet_67 : decode cX7_outlet 67 = .ok (.iload_n 3, 1) := dk_29 (dk_at dksX7_outlet_2 20 rfl rfl)
theorem dX7_outlet_68 : decode cX7_outlet 68 = .ok (.baload, 1) := dk_51 (dk_at dksX7_outlet_2 21 rfl rfl)
theorem dX7_outlet_69 : decode cX7_outlet 69 = .ok (.iload_n 1, 1) := dk_27 (dk_at dksX7_outlet_2 22 rfl rfl)
theorem dX7_outlet_70 : decode cX7_outlet 70 = .ok (.if_icmp .ne 18, 3) := dk_160 0 18 (dk_at dksX7_outlet_3 0 rfl rfl)
theorem dX7_outlet_73 : decode cX7_outlet 73 = .ok (.aload_n 0, 1) := dk_42 (dk_at dksX7_outlet_3 3 rfl rfl)
theorem dX7_outlet_74 : decode cX7_outlet 74 = .ok (.getfield 27, 3) := dk_180 0 27 (dk_at dksX7_outlet_3 4 rfl rfl)
theorem dX7_outlet_77 : decode cX7_outlet 77 = .ok (.iload_n 3, 1) := dk_29 (dk_at dksX7_outlet_3 7 rfl rfl)
theorem dX7_outlet_78 : decode cX7_outlet 78 = .ok (.invokevirtual 231, 3) := dk_182 0 231 (dk_at dksX7_outlet_3 8 rfl rfl)
theorem dX7_outlet_81 : decode cX7_outlet 81 = .ok (.ifCond .ne 7, 3) := dk_154 0 7 (dk_at dksX7_outlet_3 11 rfl rfl)
theorem dX7_outlet_84 : decode cX7_outlet 84 = .ok (.iconst 1, 1) := dk_4 (dk_at dksX7_outlet_3 14 rfl rfl)
theorem dX7_outlet_85 : decode cX7_outlet 85 = .ok (.goto 4, 3) := dk_167 0 4 (dk_at dksX7_outlet_3 15 rfl rfl)
theorem dX7_outlet_88 : decode cX7_outlet 88 = .ok (.iconst 0, 1) := dk_3 (dk_at dksX7_outlet_3 18 rfl rfl)
theorem dX7_outlet_89 : decode cX7_outlet 89 = .ok (.iconst 5, 1) := dk_8 (dk_at dksX7_outlet_3 19 rfl rfl)
theorem dX7_outlet_90 : decode cX7_outlet 90 = .ok (.invokevirtual 116, 3) := dk_182 0 116 (dk_at dksX7_outlet_3 20 rfl rfl)
theorem dX7_outlet_93 : decode cX7_outlet 93 = .ok (.aload_n 0, 1) := dk_42 (dk_at dksX7_outlet_3 23 rfl rfl)
theorem dX7_outlet_94 : decode cX7_outlet 94 = .ok (.invokevirtual 50, 3) := dk_182 0 50 (dk_at dksX7_outlet_4 0 rfl rfl)
theorem dX7_outlet_97 : decode cX7_outlet 97 = .ok (.aload_n 0, 1) := dk_42 (dk_at dksX7_outlet_4 3 rfl rfl)
theorem dX7_outlet_98 : decode cX7_outlet 98 = .ok (.getfield 27, 3) := dk_180 0 27 (dk_at dksX7_outlet_4 4 rfl rfl)
theorem dX7_outlet_101 : decode cX7_outlet 101 = .ok (.getfield 225, 3) := dk_180 0 225 (dk_at dksX7_outlet_4 7 rfl rfl)
theorem dX7_outlet_104 : decode cX7_outlet 104 = .ok (.new 234, 3) := dk_187 0 234 (dk_at dksX7_outlet_4 10 rfl rfl)
theorem dX7_outlet_107 : decode cX7_outlet 107 = .ok (.dup, 1) := dk_89 (dk_at dksX7_outlet_4 13 rfl rfl)
theorem dX7_outlet_108 : decode cX7_outlet 108 = .ok (.iload_n 3, 1) := dk_29 (dk_at dksX7_outlet_4 14 rfl rfl)
theorem dX7_outlet_109 : decode cX7_outlet 109 = .ok (.iload_n 1, 1) := dk_27 (dk_at dksX7_outlet_4 15 rfl rfl)
theorem dX7_outlet_110 : decode cX7_outlet 110 = .ok (.invokespecial 236, 3) := dk_183 0 236 (dk_at dksX7_outlet_4 16 rfl rfl)
theorem dX7_outlet_113 : decode cX7_outlet 113 = .ok (.invokeinterface 175 2, 5) := by decide +kernel
theorem dX7_outlet_118 : decode cX7_outlet 118 = .ok (.pop, 1) := dk_87 (dk_at dksX7_outlet_5 0 rfl rfl)
theorem dX7_outlet_119 : decode cX7_outlet 119 = .ok (.return_, 1) := dk_177 (dk_at dksX7_outlet_5 1 rfl rfl)
abbrev cX7_setting : ByteArray := prog_11_method_20_code
def yX7_setting : MethodName := ⟨RX7, "setting", "(Ljava/lang/String;)V"⟩
def dkwX7_setting_10 : List UInt8 := [181, 0, 255, 167, 0, 18, 42, 180, 0, 18, 42, 3, 17, 3, 231, 182, 0, 164, 181, 1, 1, 177]
abbrev dktX7_setting_10 : List UInt8 := dkwX7_setting_10 ++ []
def dkwX7_setting_9 : List UInt8 := [182, 0, 164, 133, 105, 181, 0, 253, 167, 0, 35, 42, 180, 0, 18, 42, 3, 16, 12, 182, 0, 164]
abbrev dktX7_setting_9 : List UInt8 := dkwX7_setting_9 ++ dktX7_setting_10
def dkwX7_setting_8 : List UInt8 := [182, 0, 164, 183, 0, 239, 181, 0, 251, 167, 0, 58, 42, 180, 0, 18, 20, 0, 179, 42, 3, 17, 39, 15]
abbrev dktX7_setting_8 : List UInt8 := dkwX7_setting_8 ++ dktX7_setting_9
def dkwX7_setting_7 : List UInt8 := [183, 0, 239, 181, 0, 249, 167, 0, 83, 42, 180, 0, 18, 187, 0, 237, 89, 42, 3, 17, 7, 208]
abbrev dktX7_setting_7 : List UInt8 := dkwX7_setting_7 ++ dktX7_setting_8
def dkwX7_setting_6 : List UInt8 := [42, 182, 0, 247, 167, 0, 108, 42, 180, 0, 18, 187, 0, 237, 89, 42, 3, 17, 1, 244, 182, 0, 164]
abbrev dktX7_setting_6 : List UInt8 := dkwX7_setting_6 ++ dktX7_setting_7
def dkwX7_setting_5 : List UInt8 := [170, 0, 0, 0, 0, 0, 0, 133, 0, 0, 0, 0, 0, 0, 0, 4, 0, 0, 0, 36, 0, 0, 0, 43, 0, 0, 0, 68, 0, 0, 0, 93, 0, 0, 0, 116]
abbrev dktX7_setting_5 : List UInt8 := dkwX7_setting_5 ++ dktX7_setting_6
def dkwX7_setting_4 : List UInt8 := [153, 0, 19, 6, 62, 167, 0, 14, 44, 18, 149, 182, 0, 131, 153, 0, 5, 7, 62, 29]
abbrev dktX7_setting_4 : List UInt8 := dkwX7_setting_4 ++ dktX7_setting_5
def dkwX7_setting_3 : List UInt8 := [62, 167, 0, 42, 44, 18, 145, 182, 0, 131, 153, 0, 33, 5, 62, 167, 0, 28, 44, 18, 147, 182, 0, 131]
abbrev dktX7_setting_3 : List UInt8 := dkwX7_setting_3 ++ dktX7_setting_4
def dkwX7_setting_2 : List UInt8 := [44, 18, 141, 182, 0, 131, 153, 0, 61, 3, 62, 167, 0, 56, 44, 18, 143, 182, 0, 131, 153, 0, 47, 4]
abbrev dktX7_setting_2 : List UInt8 := dkwX7_setting_2 ++ dktX7_setting_3
def dkwX7_setting_1 : List UInt8 := [171, 0, 0, 0, 0, 0, 0, 119, 0, 0, 0, 5, 175, 101, 170, 249, 0, 0, 0, 52, 0, 1, 139, 134, 0, 0, 0, 94, 5, 134, 3, 79, 0, 0, 0, 80, 5, 176, 185, 131, 0, 0, 0, 108, 33, 255, 167, 42, 0, 0, 0, 66]
abbrev dktX7_setting_1 : List UInt8 := dkwX7_setting_1 ++ dktX7_setting_2
def dkwX7_setting_0 : List UInt8 := [42, 182, 0, 50, 43, 77, 2, 62, 44, 182, 0, 124]
abbrev dktX7_setting_0 : List UInt8 := dkwX7_setting_0 ++ dktX7_setting_1
theorem dksX7_setting_0 : cX7_setting.data.toList.drop 0 = dktX7_setting_0 := by decide +kernel
theorem dksX7_setting_1 : cX7_setting.data.toList.drop 12 = dktX7_setting_1 := dk_seg dksX7_setting_0 12 rfl rfl
theorem dksX7_setting_2 : cX7_setting.data.toList.drop 64 = dktX7_setting_2 := dk_seg dksX7_setting_1 52 rfl rfl
theorem dksX7_setting_3 : cX7_setting.data.toList.drop 88 = dktX7_setting_3 := dk_seg dksX7_setting_2 24 rfl rfl
theorem dksX7_setting_4 : cX7_setting.data.toList.drop 112 = dktX7_setting_4 := dk_seg dksX7_setting_3 24 rfl rfl
theorem dksX7_setting_5 : cX7_setting.data.toList.drop 132 = dktX7_setting_5 := dk_seg dksX7_setting_4 20 rfl rfl
theorem dksX7_setting_6 : cX7_setting.data.toList.drop 168 = dktX7_setting_6 := dk_seg dksX7_setting_5 36 rfl rfl
theorem dksX7_setting_7 : cX7_setting.data.toList.drop 191 = dktX7_setting_7 := dk_seg dksX7_setting_6 23 rfl rfl
theorem dksX7_setting_8 : cX7_setting.data.toList.drop 213 = dktX7_setting_8 := dk_seg dksX7_setting_7 22 rfl rfl
theorem dksX7_setting_9 : cX7_setting.data.toList.drop 237 = dktX7_setting_9 := dk_seg dksX7_setting_8 24 rfl rfl
theorem dksX7_setting_10 : cX7_setting.data.toList.drop 259 = dktX7_setting_10 := dk_seg dksX7_setting_9 22 rfl rfl
theorem dX7_setting_0 : decode cX7_setting 0 = .ok (.aload_n 0, 1) := dk_42 (dk_at dksX7_setting_0 0 rfl rfl)
theorem dX7_setting_1 : decode cX7_setting 1 = .ok (.invokevirtual 50, 3) := dk_182 0 50 (dk_at dksX7_setting_0 1 rfl rfl)
theorem dX7_setting_4 : decode cX7_setting 4 = .ok (.aload_n 1, 1) := dk_43 (dk_at dksX7_setting_0 4 rfl rfl)
theorem dX7_setting_5 : decode cX7_setting 5 = .ok (.astore_n 2, 1) := dk_77 (dk_at dksX7_setting_0 5 rfl rfl)
theorem dX7_setting_6 : decode cX7_setting 6 = .ok (.iconst (-1), 1) := dk_2 (dk_at dksX7_setting_0 6 rfl rfl)
theorem dX7_setting_7 : decode cX7_setting 7 = .ok (.istore_n 3, 1) := dk_62 (dk_at dksX7_setting_0 7 rfl rfl)
theorem dX7_setting_8 : decode cX7_setting 8 = .ok (.aload_n 2, 1) := dk_44 (dk_at dksX7_setting_0 8 rfl rfl)
theorem dX7_setting_9 : decode cX7_setting 9 = .ok (.invokevirtual 124, 3) := dk_182 0 124 (dk_at dksX7_setting_0 9 rfl rfl)
theorem dX7_setting_12 : decode cX7_setting 12 = .ok (.lookupswitch 119 #[(-1352291591, 52), (101254, 94), (92668751, 80), (95467907, 108), (570402602, 66)], 52) := by decide +kernel
theorem dX7_setting_64 : decode cX7_setting 64 = .ok (.aload_n 2, 1) := dk_44 (dk_at dksX7_setting_2 0 rfl rfl)
theorem dX7_setting_65 : decode cX7_setting 65 = .ok (.ldc 141, 2) := dk_18 141 (dk_at dksX7_setting_2 1 rfl rfl)
theorem dX7_setting_67 : decode cX7_setting 67 = .ok (.invokevirtual 131, 3) := dk_182 0 131 (dk_at dksX7_setting_2 3 rfl rfl)
theorem dX7_setting_70 : decode cX7_setting 70 = .ok (.ifCond .eq 61, 3) := dk_153 0 61 (dk_at dksX7_setting_2 6 rfl rfl)
theorem dX7_setting_73 : decode cX7_setting 73 = .ok (.iconst 0, 1) := dk_3 (dk_at dksX7_setting_2 9 rfl rfl)
theorem dX7_setting_74 : decode cX7_setting 74 = .ok (.istore_n 3, 1) := dk_62 (dk_at dksX7_setting_2 10 rfl rfl)
theorem dX7_setting_75 : decode cX7_setting 75 = .ok (.goto 56, 3) := dk_167 0 56 (dk_at dksX7_setting_2 11 rfl rfl)
theorem dX7_setting_78 : decode cX7_setting 78 = .ok (.aload_n 2, 1) := dk_44 (dk_at dksX7_setting_2 14 rfl rfl)
theorem dX7_setting_79 : decode cX7_setting 79 = .ok (.ldc 143, 2) := dk_18 143 (dk_at dksX7_setting_2 15 rfl rfl)
theorem dX7_setting_81 : decode cX7_setting 81 = .ok (.invokevirtual 131, 3) := dk_182 0 131 (dk_at dksX7_setting_2 17 rfl rfl)
theorem dX7_setting_84 : decode cX7_setting 84 = .ok (.ifCond .eq 47, 3) := dk_153 0 47 (dk_at dksX7_setting_2 20 rfl rfl)
theorem dX7_setting_87 : decode cX7_setting 87 = .ok (.iconst 1, 1) := dk_4 (dk_at dksX7_setting_2 23 rfl rfl)
theorem dX7_setting_88 : decode cX7_setting 88 = .ok (.istore_n 3, 1) := dk_62 (dk_at dksX7_setting_3 0 rfl rfl)
theorem dX7_setting_89 : decode cX7_setting 89 = .ok (.goto 42, 3) := dk_167 0 42 (dk_at dksX7_setting_3 1 rfl rfl)
theorem dX7_setting_92 : decode cX7_setting 92 = .ok (.aload_n 2, 1) := dk_44 (dk_at dksX7_setting_3 4 rfl rfl)
theorem dX7_setting_93 : decode cX7_setting 93 = .ok (.ldc 145, 2) := dk_18 145 (dk_at dksX7_setting_3 5 rfl rfl)
theorem dX7_setting_95 : decode cX7_setting 95 = .ok (.invokevirtual 131, 3) := dk_182 0 131 (dk_at dksX7_setting_3 7 rfl rfl)
theorem dX7_setting_98 : decode cX7_setting 98 = .ok (.ifCond .eq 33, 3) := dk_153 0 33 (dk_at dksX7_setting_3 10 rfl rfl)
theorem dX7_setting_101 : decode cX7_setting 101 = .ok (.iconst 2, 1) := dk_5 (dk_at dksX7_setting_3 13 rfl rfl)
theorem dX7_setting_102 : decode cX7_setting 102 = .ok (.istore_n 3, 1) := dk_62 (dk_at dksX7_setting_3 14 rfl rfl)
theorem dX7_setting_103 : decode cX7_setting 103 = .ok (.goto 28, 3) := dk_167 0 28 (dk_at dksX7_setting_3 15 rfl rfl)
theorem dX7_setting_106 : decode cX7_setting 106 = .ok (.aload_n 2, 1) := dk_44 (dk_at dksX7_setting_3 18 rfl rfl)
theorem dX7_setting_107 : decode cX7_setting 107 = .ok (.ldc 147, 2) := dk_18 147 (dk_at dksX7_setting_3 19 rfl rfl)
theorem dX7_setting_109 : decode cX7_setting 109 = .ok (.invokevirtual 131, 3) := dk_182 0 131 (dk_at dksX7_setting_3 21 rfl rfl)
theorem dX7_setting_112 : decode cX7_setting 112 = .ok (.ifCond .eq 19, 3) := dk_153 0 19 (dk_at dksX7_setting_4 0 rfl rfl)
theorem dX7_setting_115 : decode cX7_setting 115 = .ok (.iconst 3, 1) := dk_6 (dk_at dksX7_setting_4 3 rfl rfl)
theorem dX7_setting_116 : decode cX7_setting 116 = .ok (.istore_n 3, 1) := dk_62 (dk_at dksX7_setting_4 4 rfl rfl)
theorem dX7_setting_117 : decode cX7_setting 117 = .ok (.goto 14, 3) := dk_167 0 14 (dk_at dksX7_setting_4 5 rfl rfl)
theorem dX7_setting_120 : decode cX7_setting 120 = .ok (.aload_n 2, 1) := dk_44 (dk_at dksX7_setting_4 8 rfl rfl)
theorem dX7_setting_121 : decode cX7_setting 121 = .ok (.ldc 149, 2) := dk_18 149 (dk_at dksX7_setting_4 9 rfl rfl)
theorem dX7_setting_123 : decode cX7_setting 123 = .ok (.invokevirtual 131, 3) := dk_182 0 131 (dk_at dksX7_setting_4 11 rfl rfl)
theorem dX7_setting_126 : decode cX7_setting 126 = .ok (.ifCond .eq 5, 3) := dk_153 0 5 (dk_at dksX7_setting_4 14 rfl rfl)
theorem dX7_setting_129 : decode cX7_setting 129 = .ok (.iconst 4, 1) := dk_7 (dk_at dksX7_setting_4 17 rfl rfl)
theorem dX7_setting_130 : decode cX7_setting 130 = .ok (.istore_n 3, 1) := dk_62 (dk_at dksX7_setting_4 18 rfl rfl)
theorem dX7_setting_131 : decode cX7_setting 131 = .ok (.iload_n 3, 1) := dk_29 (dk_at dksX7_setting_4 19 rfl rfl)
theorem dX7_setting_132 : decode cX7_setting 132 = .ok (.tableswitch 133 0 4 #[36, 43, 68, 93, 116], 36) := by decide +kernel
theorem dX7_setting_168 : decode cX7_setting 168 = .ok (.aload_n 0, 1) := dk_42 (dk_at dksX7_setting_6 0 rfl rfl)
theorem dX7_setting_169 : decode cX7_setting 169 = .ok (.invokevirtual 247, 3) := dk_182 0 247 (dk_at dksX7_setting_6 1 rfl rfl)
theorem dX7_setting_172 : decode cX7_setting 172 = .ok (.goto 108, 3) := dk_167 0 108 (dk_at dksX7_setting_6 4 rfl rfl)
theorem dX7_setting_175 : decode cX7_setting 175 = .ok (.aload_n 0, 1) := dk_42 (dk_at dksX7_setting_6 7 rfl rfl)
theorem dX7_setting_176 : decode cX7_setting 176 = .ok (.getfield 18, 3) := dk_180 0 18 (dk_at dksX7_setting_6 8 rfl rfl)
theorem dX7_setting_179 : decode cX7_setting 179 = .ok (.new 237, 3) := dk_187 0 237 (dk_at dksX7_setting_6 11 rfl rfl)
theorem dX7_setting_182 : decode cX7_setting 182 = .ok (.dup, 1) := dk_89 (dk_at dksX7_setting_6 14 rfl rfl)
theorem dX7_setting_183 : decode cX7_setting 183 = .ok (.aload_n 0, 1) := dk_42 (dk_at dksX7_setting_6 15 rfl rfl)
theorem dX7_setting_184 : decode cX7_setting 184 = .ok (.iconst 0, 1) := dk_3 (dk_at dksX7_setting_6 16 rfl rfl)
theorem dX7_setting_185 : decode cX7_setting 185 = .ok (.sipush 500, 3) := dk_17 1 244 (dk_at dksX7_setting_6 17 rfl rfl)
theorem dX7_setting_188 : decode cX7_setting 188 = .ok (.invokevirtual 164, 3) := dk_182 0 164 (dk_at dksX7_setting_6 20 rfl rfl)
theorem dX7_setting_191 : decode cX7_setting 191 = .ok (.invokespecial 239, 3) := dk_183 0 239 (dk_at dksX7_setting_7 0 rfl rfl)
theorem dX7_setting_194 : decode cX7_setting 194 = .ok (.putfield 249, 3) := dk_181 0 249 (dk_at dksX7_setting_7 3 rfl rfl)
theorem dX7_setting_197 : decode cX7_setting 197 = .ok (.goto 83, 3) := dk_167 0 83 (dk_at dksX7_setting_7 6 rfl rfl)
theorem dX7_setting_200 : decode cX7_setting 200 = .ok (.aload_n 0, 1) := dk_42 (dk_at dksX7_setting_7 9 rfl rfl)
theorem dX7_setting_201 : decode cX7_setting 201 = .ok (.getfield 18, 3) := dk_180 0 18 (dk_at dksX7_setting_7 10 rfl rfl)
theorem dX7_setting_204 : decode cX7_setting 204 = .ok (.new 237, 3) := dk_187 0 237 (dk_at dksX7_setting_7 13 rfl rfl)
theorem dX7_setting_207 : decode cX7_setting 207 = .ok (.dup, 1) := dk_89 (dk_at dksX7_setting_7 16 rfl rfl)
theorem dX7_setting_208 : decode cX7_setting 208 = .ok (.aload_n 0, 1) := dk_42 (dk_at dksX7_setting_7 17 rfl rfl)
theorem dX7_setting_209 : decode cX7_setting 209 = .ok (.iconst 0, 1) := dk_3 (dk_at dksX7_setting_7 18 rfl rfl)
theorem dX7_setting_210 : decode cX7_setting 210 = .ok (.sipush 2000, 3) := dk_17 7 208 (dk_at dksX7_setting_7 19 rfl rfl)
theorem dX7_setting_213 : decode cX7_setting 213 = .ok (.invokevirtual 164, 3) := dk_182 0 164 (dk_at dksX7_setting_8 0 rfl rfl)
theorem dX7_setting_216 : decode cX7_setting 216 = .ok (.invokespecial 239, 3) := dk_183 0 239 (dk_at dksX7_setting_8 3 rfl rfl)
theorem dX7_setting_219 : decode cX7_setting 219 = .ok (.putfield 251, 3) := dk_181 0 251 (dk_at dksX7_setting_8 6 rfl rfl)
theorem dX7_setting_222 : decode cX7_setting 222 = .ok (.goto 58, 3) := dk_167 0 58 (dk_at dksX7_setting_8 9 rfl rfl)
theorem dX7_setting_225 : decode cX7_setting 225 = .ok (.aload_n 0, 1) := dk_42 (dk_at dksX7_setting_8 12 rfl rfl)
theorem dX7_setting_226 : decode cX7_setting 226 = .ok (.getfield 18, 3) := dk_180 0 18 (dk_at dksX7_setting_8 13 rfl rfl)
theorem dX7_setting_229 : decode cX7_setting 229 = .ok (.ldc2_w 179, 3) := dk_20 0 179 (dk_at dksX7_setting_8 16 rfl rfl)
theorem dX7_setting_232 : decode cX7_setting 232 = .ok (.aload_n 0, 1) := dk_42 (dk_at dksX7_setting_8 19 rfl rfl)
theorem dX7_setting_233 : decode cX7_setting 233 = .ok (.iconst 0, 1) := dk_3 (dk_at dksX7_setting_8 20 rfl rfl)
theorem dX7_setting_234 : decode cX7_setting 234 = .ok (.sipush 9999, 3) := dk_17 39 15 (dk_at dksX7_setting_8 21 rfl rfl)
theorem dX7_setting_237 : decode cX7_setting 237 = .ok (.invokevirtual 164, 3) := dk_182 0 164 (dk_at dksX7_setting_9 0 rfl rfl)
theorem dX7_setting_240 : decode cX7_setting 240 = .ok (.i2l, 1) := dk_133 (dk_at dksX7_setting_9 3 rfl rfl)
theorem dX7_setting_241 : decode cX7_setting 241 = .ok (.lmul, 1) := dk_105 (dk_at dksX7_setting_9 4 rfl rfl)
theorem dX7_setting_242 : decode cX7_setting 242 = .ok (.putfield 253, 3) := dk_181 0 253 (dk_at dksX7_setting_9 5 rfl rfl)
theorem dX7_setting_245 : decode cX7_setting 245 = .ok (.goto 35, 3) := dk_167 0 35 (dk_at dksX7_setting_9 8 rfl rfl)
theorem dX7_setting_248 : decode cX7_setting 248 = .ok (.aload_n 0, 1) := dk_42 (dk_at dksX7_setting_9 11 rfl rfl)
theorem dX7_setting_249 : decode cX7_setting 249 = .ok (.getfield 18, 3) := dk_180 0 18 (dk_at dksX7_setting_9 12 rfl rfl)
theorem dX7_setting_252 : decode cX7_setting 252 = .ok (.aload_n 0, 1) := dk_42 (dk_at dksX7_setting_9 15 rfl rfl)
theorem dX7_setting_253 : decode cX7_setting 253 = .ok (.iconst 0, 1) := dk_3 (dk_at dksX7_setting_9 16 rfl rfl)
theorem dX7_setting_254 : decode cX7_setting 254 = .ok (.bipush 12, 2) := dk_16 12 (dk_at dksX7_setting_9 17 rfl rfl)
theorem dX7_setting_256 : decode cX7_setting 256 = .ok (.invokevirtual 164, 3) := dk_182 0 164 (dk_at dksX7_setting_9 19 rfl rfl)
theorem dX7_setting_259 : decode cX7_setting 259 = .ok (.putfield 255, 3) := dk_181 0 255 (dk_at dksX7_setting_10 0 rfl rfl)
theorem dX7_setting_262 : decode cX7_setting 262 = .ok (.goto 18, 3) := dk_167 0 18 (dk_at dksX7_setting_10 3 rfl rfl)
theorem dX7_setting_265 : decode cX7_setting 265 = .ok (.aload_n 0, 1) := dk_42 (dk_at dksX7_setting_10 6 rfl rfl)
theorem dX7_setting_266 : decode cX7_setting 266 = .ok (.getfield 18, 3) := dk_180 0 18 (dk_at dksX7_setting_10 7 rfl rfl)
theorem dX7_setting_269 : decode cX7_setting 269 = .ok (.aload_n 0, 1) := dk_42 (dk_at dksX7_setting_10 10 rfl rfl)
theorem dX7_setting_270 : decode cX7_setting 270 = .ok (.iconst 0, 1) := dk_3 (dk_at dksX7_setting_10 11 rfl rfl)
theorem dX7_setting_271 : decode cX7_setting 271 = .ok (.sipush 999, 3) := dk_17 3 231 (dk_at dksX7_setting_10 12 rfl rfl)
theorem dX7_setting_274 : decode cX7_setting 274 = .ok (.invokevirtual 164, 3) := dk_182 0 164 (dk_at dksX7_setting_10 15 rfl rfl)
theorem dX7_setting_277 : decode cX7_setting 277 = .ok (.putfield 257, 3) := dk_181 1 1 (dk_at dksX7_setting_10 18 rfl rfl)
theorem dX7_setting_280 : decode cX7_setting 280 = .ok (.return_, 1) := dk_177 (dk_at dksX7_setting_10 21 rfl rfl)
abbrev cX7_credit : ByteArray := prog_11_method_19_code
def yX7_credit : MethodName := ⟨RX7, "credit", "()V"⟩
def dkwX7_credit_1 : List UInt8 := [180, 0, 18, 20, 0, 179, 42, 3, 17, 39, 15, 182, 0, 164, 133, 105, 181, 0, 243, 177]
abbrev dktX7_credit_1 : List UInt8 := dkwX7_credit_1 ++ []
def dkwX7_credit_0 : List UInt8 := [42, 180, 0, 18, 187, 0, 237, 89, 42, 3, 17, 19, 136, 182, 0, 164, 183, 0, 239, 181, 0, 240, 42]
abbrev dktX7_credit_0 : List UInt8 := dkwX7_credit_0 ++ dktX7_credit_1
theorem dksX7_credit_0 : cX7_credit.data.toList.drop 0 = dktX7_credit_0 := by decide +kernel
theorem dksX7_credit_1 : cX7_credit.data.toList.drop 23 = dktX7_credit_1 := dk_seg dksX7_credit_0 23 rfl rfl
theorem dX7_credit_0 : decode cX7_credit 0 = .ok (.aload_n 0, 1) := dk_42 (dk_at dksX7_credit_0 0 rfl rfl)
theorem dX7_credit_1 : decode cX7_credit 1 = .ok (.getfield 18, 3) := dk_180 0 18 (dk_at dksX7_credit_0 1 rfl rfl)
theorem dX7_credit_4 : decode cX7_credit 4 = .ok (.new 237, 3) := dk_187 0 237 (dk_at dksX7_credit_0 4 rfl rfl)
theorem dX7_credit_7 : decode cX7_credit 7 = .ok (.dup, 1) := dk_89 (dk_at dksX7_credit_0 7 rfl rfl)
theorem dX7_credit_8 : decode cX7_credit 8 = .ok (.aload_n 0, 1) := dk_42 (dk_at dksX7_credit_0 8 rfl rfl)
theorem dX7_credit_9 : decode cX7_credit 9 = .ok (.iconst 0, 1) := dk_3 (dk_at dksX7_credit_0 9 rfl rfl)
theorem dX7_credit_10 : decode cX7_credit 10 = .ok (.sipush 5000, 3) := dk_17 19 136 (dk_at dksX7_credit_0 10 rfl rfl)
theorem dX7_credit_13 : decode cX7_credit 13 = .ok (.invokevirtual 164, 3) := dk_182 0 164 (dk_at dksX7_credit_0 13 rfl rfl)
theorem dX7_credit_16 : decode cX7_credit 16 = .ok (.invokespecial 239, 3) := dk_183 0 239 (dk_at dksX7_credit_0 16 rfl rfl)
theorem dX7_credit_19 : decode cX7_credit 19 = .ok (.putfield 240, 3) := dk_181 0 240 (dk_at dksX7_credit_0 19 rfl rfl)
theorem dX7_credit_22 : decode cX7_credit 22 = .ok (.aload_n 0, 1) := dk_42 (dk_at dksX7_credit_0 22 rfl rfl)
theorem dX7_credit_23 : decode cX7_credit 23 = .ok (.getfield 18, 3) := dk_180 0 18 (dk_at dksX7_credit_1 0 rfl rfl)
theorem dX7_credit_26 : decode cX7_credit 26 = .ok (.ldc2_w 179, 3) := dk_20 0 179 (dk_at dksX7_credit_1 3 rfl rfl)
theorem dX7_credit_29 : decode cX7_credit 29 = .ok (.aload_n 0, 1) := dk_42 (dk_at dksX7_credit_1 6 rfl rfl)
theorem dX7_credit_30 : decode cX7_credit 30 = .ok (.iconst 0, 1) := dk_3 (dk_at dksX7_credit_1 7 rfl rfl)
theorem dX7_credit_31 : decode cX7_credit 31 = .ok (.sipush 9999, 3) := dk_17 39 15 (dk_at dksX7_credit_1 8 rfl rfl)
theorem dX7_credit_34 : decode cX7_credit 34 = .ok (.invokevirtual 164, 3) := dk_182 0 164 (dk_at dksX7_credit_1 11 rfl rfl)
theorem dX7_credit_37 : decode cX7_credit 37 = .ok (.i2l, 1) := dk_133 (dk_at dksX7_credit_1 14 rfl rfl)
theorem dX7_credit_38 : decode cX7_credit 38 = .ok (.lmul, 1) := dk_105 (dk_at dksX7_credit_1 15 rfl rfl)
theorem dX7_credit_39 : decode cX7_credit 39 = .ok (.putfield 243, 3) := dk_181 0 243 (dk_at dksX7_credit_1 16 rfl rfl)
theorem dX7_credit_42 : decode cX7_credit 42 = .ok (.return_, 1) := dk_177 (dk_at dksX7_credit_1 19 rfl rfl)
theorem q157 : (Jvm.Cond.initialized "FranchiseLedger$Reader") ∈ lw_all := lw_g (lw_at lw_m1 29 rfl) rfl
theorem q553 : (Jvm.Cond.fieldLinkNest "FranchiseLedger$Reader" (153 : Nat) "FranchiseLedger$Rules" "plans" "Ljava/util/List;" "FranchiseLedger") ∈ lw_tbl := lw_at lw_m2 185 rfl
theorem q556 : (Jvm.Cond.fieldLinkNest "FranchiseLedger$Reader" (194 : Nat) "FranchiseLedger$Rules" "names" "Ljava/util/List;" "FranchiseLedger") ∈ lw_tbl := lw_at lw_m2 188 rfl
theorem q559 : (Jvm.Cond.fieldLinkNest "FranchiseLedger$Reader" (240 : Nat) "FranchiseLedger$Rules" "credit" "LFranchiseLedger$Rate;" "FranchiseLedger") ∈ lw_tbl := lw_at lw_m2 191 rfl
theorem q562 : (Jvm.Cond.fieldLinkNest "FranchiseLedger$Reader" (249 : Nat) "FranchiseLedger$Rules" "interest" "LFranchiseLedger$Rate;" "FranchiseLedger") ∈ lw_tbl := lw_at lw_m2 194 rfl
theorem q566 : (Jvm.Cond.fieldLinkNest "FranchiseLedger$Reader" (251 : Nat) "FranchiseLedger$Rules" "admin" "LFranchiseLedger$Rate;" "FranchiseLedger") ∈ lw_tbl := lw_at lw_m2 198 rfl
theorem q568 : (Jvm.Cond.fieldLinkNest "FranchiseLedger$Reader" (243 : Nat) "FranchiseLedger$Rules" "creditCap" "J" "FranchiseLedger") ∈ lw_tbl := lw_at lw_m2 200 rfl
theorem q570 : (Jvm.Cond.fieldLinkNest "FranchiseLedger$Reader" (253 : Nat) "FranchiseLedger$Rules" "fee" "J" "FranchiseLedger") ∈ lw_tbl := lw_at lw_m2 202 rfl
theorem q572 : (Jvm.Cond.fieldLinkNest "FranchiseLedger$Reader" (255 : Nat) "FranchiseLedger$Rules" "delay" "I" "FranchiseLedger") ∈ lw_tbl := lw_at lw_m2 204 rfl
theorem q574 : (Jvm.Cond.fieldLinkNest "FranchiseLedger$Reader" (257 : Nat) "FranchiseLedger$Rules" "leastWorth" "I" "FranchiseLedger") ∈ lw_tbl := lw_at lw_m2 206 rfl
theorem q576 : (Jvm.Cond.fieldLinkNest "FranchiseLedger$Reader" (272 : Nat) "FranchiseLedger$Rules" "statements" "I" "FranchiseLedger") ∈ lw_tbl := lw_at lw_m2 208 rfl
theorem q615 : (Jvm.Cond.fieldLinkNest "FranchiseLedger$Reader" (211 : Nat) "FranchiseLedger$Grid" "owners" "[B" "FranchiseLedger") ∈ lw_tbl := lw_at lw_m3 7 rfl
theorem q632 : (Jvm.Cond.fieldLinkNest "FranchiseLedger$Reader" (181 : Nat) "FranchiseLedger$Books" "franchisees" "Ljava/util/List;" "FranchiseLedger") ∈ lw_tbl := lw_at lw_m3 24 rfl
theorem q635 : (Jvm.Cond.fieldLinkNest "FranchiseLedger$Reader" (225 : Nat) "FranchiseLedger$Books" "outlets" "Ljava/util/List;" "FranchiseLedger") ∈ lw_tbl := lw_at lw_m3 27 rfl
theorem q637 : (Jvm.Cond.fieldLinkNest "FranchiseLedger$Reader" (207 : Nat) "FranchiseLedger$Books" "grid" "LFranchiseLedger$Grid;" "FranchiseLedger") ∈ lw_tbl := lw_at lw_m3 29 rfl
theorem q689 : (Jvm.Cond.fieldLinkNest "FranchiseLedger$Reader" (288 : Nat) "FranchiseLedger" "rules" "LFranchiseLedger$Rules;" "FranchiseLedger") ∈ lw_tbl := lw_at lw_m3 81 rfl
theorem q695 : (Jvm.Cond.fieldLinkNest "FranchiseLedger$Reader" (56 : Nat) "FranchiseLedger" "buffer" "[B" "FranchiseLedger") ∈ lw_tbl := lw_at lw_m3 87 rfl
theorem q697 : (Jvm.Cond.fieldLinkNest "FranchiseLedger$Reader" (37 : Nat) "FranchiseLedger" "bufferLength" "I" "FranchiseLedger") ∈ lw_tbl := lw_at lw_m3 89 rfl
theorem q699 : (Jvm.Cond.fieldLinkNest "FranchiseLedger$Reader" (44 : Nat) "FranchiseLedger" "errorCode" "I" "FranchiseLedger") ∈ lw_tbl := lw_at lw_m3 91 rfl
theorem q701 : (Jvm.Cond.fieldLinkNest "FranchiseLedger$Reader" (47 : Nat) "FranchiseLedger" "errorPosition" "I" "FranchiseLedger") ∈ lw_tbl := lw_at lw_m3 93 rfl
theorem q1002 : (Jvm.Cond.selects "FranchiseLedger$Reader" ({ cls := "java/lang/Object", name := "getClass", desc := "()Ljava/lang/Class;" } : Jvm.MethodName) ({ cls := "java/lang/Object", name := "getClass", desc := "()Ljava/lang/Class;" } : Jvm.MethodName)) ∈ lw_all := lw_g (lw_at lw_m4 154 rfl) rfl
theorem q1332 : (Jvm.Cond.instantiable "FranchiseLedger$Reader" (9 : Nat)) ∈ lw_all := lw_g (lw_at lw_m6 4 rfl) rfl
theorem q1334 : (Jvm.Cond.instanceMethod ({ cls := "FranchiseLedger$Reader", name := "<init>", desc := "(LFranchiseLedger;)V" } : Jvm.MethodName)) ∈ lw_all := lw_g (lw_at lw_m6 6 rfl) rfl
theorem q1335 : (Jvm.Cond.code ({ cls := "FranchiseLedger$Reader", name := "<init>", desc := "(LFranchiseLedger;)V" } : Jvm.MethodName) prog_11_method_1_code (2 : Nat) (Option.none : Option Jvm.ClassFile.FieldType)) ∈ lw_all := lw_g (lw_at lw_m6 7 rfl) rfl
theorem q1336 : (Jvm.Cond.methodLink "FranchiseLedger$Reader" (9 : Nat) ({ cls := "java/lang/Object", name := "<init>", desc := "()V" } : Jvm.MethodName)) ∈ lw_all := lw_g (lw_at lw_m6 8 rfl) rfl
theorem q1337 : (Jvm.Cond.classLink "FranchiseLedger$Reader" (15 : Nat) "FranchiseLedger$Rules") ∈ lw_all := lw_g (lw_at lw_m6 9 rfl) rfl
theorem q1338 : (Jvm.Cond.methodLinkNest "FranchiseLedger$Reader" (17 : Nat) ({ cls := "FranchiseLedger$Rules", name := "<init>", desc := "()V" } : Jvm.MethodName) "FranchiseLedger") ∈ lw_tbl := lw_at lw_m6 10 rfl
theorem q1339 : (Jvm.Cond.classLink "FranchiseLedger$Reader" (22 : Nat) "FranchiseLedger$Books") ∈ lw_all := lw_g (lw_at lw_m6 11 rfl) rfl
theorem q1340 : (Jvm.Cond.methodLinkNest "FranchiseLedger$Reader" (24 : Nat) ({ cls := "FranchiseLedger$Books", name := "<init>", desc := "(LFranchiseLedger;)V" } : Jvm.MethodName) "FranchiseLedger") ∈ lw_tbl := lw_at lw_m6 12 rfl
theorem q1341 : (Jvm.Cond.stringRef "FranchiseLedger$Reader" (31 : Nat) "") ∈ lw_tbl := lw_at lw_m6 13 rfl
theorem q1342 : (Jvm.Cond.methodLink "FranchiseLedger$Reader" (50 : Nat) ({ cls := "FranchiseLedger$Reader", name := "scan", desc := "()V" } : Jvm.MethodName)) ∈ lw_all := lw_g (lw_at lw_m6 14 rfl) rfl
theorem q1343 : (Jvm.Cond.privateMethod ({ cls := "FranchiseLedger$Reader", name := "scan", desc := "()V" } : Jvm.MethodName)) ∈ lw_tbl := lw_at lw_m6 15 rfl
theorem q1344 : (Jvm.Cond.instanceMethod ({ cls := "FranchiseLedger$Reader", name := "scan", desc := "()V" } : Jvm.MethodName)) ∈ lw_all := lw_g (lw_at lw_m6 16 rfl) rfl
theorem q1345 : (Jvm.Cond.code ({ cls := "FranchiseLedger$Reader", name := "scan", desc := "()V" } : Jvm.MethodName) prog_11_method_5_code (1 : Nat) (Option.none : Option Jvm.ClassFile.FieldType)) ∈ lw_all := lw_g (lw_at lw_m6 17 rfl) rfl
theorem q1346 : (Jvm.Cond.methodLink "FranchiseLedger$Reader" (60 : Nat) ({ cls := "FranchiseLedger$Reader", name := "peek", desc := "()I" } : Jvm.MethodName)) ∈ lw_all := lw_g (lw_at lw_m6 18 rfl) rfl
theorem q1347 : (Jvm.Cond.privateMethod ({ cls := "FranchiseLedger$Reader", name := "peek", desc := "()I" } : Jvm.MethodName)) ∈ lw_tbl := lw_at lw_m6 19 rfl
theorem q1348 : (Jvm.Cond.instanceMethod ({ cls := "FranchiseLedger$Reader", name := "peek", desc := "()I" } : Jvm.MethodName)) ∈ lw_all := lw_g (lw_at lw_m6 20 rfl) rfl
theorem q1349 : (Jvm.Cond.code ({ cls := "FranchiseLedger$Reader", name := "peek", desc := "()I" } : Jvm.MethodName) prog_11_method_2_code (1 : Nat) (Option.some Jvm.ClassFile.FieldType.int)) ∈ lw_all := lw_g (lw_at lw_m6 21 rfl) rfl
theorem q1350 : (Jvm.Cond.methodLink "FranchiseLedger$Reader" (82 : Nat) ({ cls := "FranchiseLedger$Reader", name := "isLetter", desc := "()Z" } : Jvm.MethodName)) ∈ lw_all := lw_g (lw_at lw_m6 22 rfl) rfl
theorem q1351 : (Jvm.Cond.privateMethod ({ cls := "FranchiseLedger$Reader", name := "isLetter", desc := "()Z" } : Jvm.MethodName)) ∈ lw_tbl := lw_at lw_m6 23 rfl
theorem q1352 : (Jvm.Cond.instanceMethod ({ cls := "FranchiseLedger$Reader", name := "isLetter", desc := "()Z" } : Jvm.MethodName)) ∈ lw_all := lw_g (lw_at lw_m6 24 rfl) rfl
theorem q1353 : (Jvm.Cond.code ({ cls := "FranchiseLedger$Reader", name := "isLetter", desc := "()Z" } : Jvm.MethodName) prog_11_method_4_code (1 : Nat) (Option.some Jvm.ClassFile.FieldType.boolean)) ∈ lw_all := lw_g (lw_at lw_m6 25 rfl) rfl
theorem q1354 : (Jvm.Cond.constantLong "FranchiseLedger$Reader" (72 : Nat) (97 : Int64)) ∈ lw_all := lw_g (lw_at lw_m6 26 rfl) rfl
theorem q1355 : (Jvm.Cond.constantLong "FranchiseLedger$Reader" (74 : Nat) (122 : Int64)) ∈ lw_all := lw_g (lw_at lw_m6 27 rfl) rfl
theorem q1356 : (Jvm.Cond.methodLinkNest "FranchiseLedger$Reader" (68 : Nat) ({ cls := "FranchiseLedger", name := "inRange", desc := "(JJJ)Z" } : Jvm.MethodName) "FranchiseLedger") ∈ lw_tbl := lw_at lw_m6 28 rfl
theorem q1357 : (Jvm.Cond.methodLink "FranchiseLedger$Reader" (86 : Nat) ({ cls := "FranchiseLedger$Reader", name := "scanWord", desc := "()V" } : Jvm.MethodName)) ∈ lw_all := lw_g (lw_at lw_m6 29 rfl) rfl
theorem q1358 : (Jvm.Cond.privateMethod ({ cls := "FranchiseLedger$Reader", name := "scanWord", desc := "()V" } : Jvm.MethodName)) ∈ lw_tbl := lw_at lw_m6 30 rfl
theorem q1359 : (Jvm.Cond.instanceMethod ({ cls := "FranchiseLedger$Reader", name := "scanWord", desc := "()V" } : Jvm.MethodName)) ∈ lw_all := lw_g (lw_at lw_m6 31 rfl) rfl
theorem q1360 : (Jvm.Cond.code ({ cls := "FranchiseLedger$Reader", name := "scanWord", desc := "()V" } : Jvm.MethodName) prog_11_method_6_code (2 : Nat) (Option.none : Option Jvm.ClassFile.FieldType)) ∈ lw_all := lw_g (lw_at lw_m6 32 rfl) rfl
theorem q1361 : (Jvm.Cond.classLink "FranchiseLedger$Reader" (95 : Nat) "java/lang/StringBuilder") ∈ lw_all := lw_g (lw_at lw_m6 33 rfl) rfl
theorem q1362 : (Jvm.Cond.methodLink "FranchiseLedger$Reader" (97 : Nat) ({ cls := "java/lang/StringBuilder", name := "<init>", desc := "(I)V" } : Jvm.MethodName)) ∈ lw_all := lw_g (lw_at lw_m6 34 rfl) rfl
theorem q1363 : (Jvm.Cond.methodLink "FranchiseLedger$Reader" (100 : Nat) ({ cls := "java/lang/StringBuilder", name := "append", desc := "(C)Ljava/lang/StringBuilder;" } : Jvm.MethodName)) ∈ lw_all := lw_g (lw_at lw_m6 35 rfl) rfl
theorem q1364 : (Jvm.Cond.methodLink "FranchiseLedger$Reader" (104 : Nat) ({ cls := "java/lang/StringBuilder", name := "toString", desc := "()Ljava/lang/String;" } : Jvm.MethodName)) ∈ lw_all := lw_g (lw_at lw_m6 36 rfl) rfl
theorem q1365 : (Jvm.Cond.methodLink "FranchiseLedger$Reader" (89 : Nat) ({ cls := "FranchiseLedger$Reader", name := "isDigit", desc := "()Z" } : Jvm.MethodName)) ∈ lw_all := lw_g (lw_at lw_m6 37 rfl) rfl
theorem q1366 : (Jvm.Cond.privateMethod ({ cls := "FranchiseLedger$Reader", name := "isDigit", desc := "()Z" } : Jvm.MethodName)) ∈ lw_tbl := lw_at lw_m6 38 rfl
theorem q1367 : (Jvm.Cond.instanceMethod ({ cls := "FranchiseLedger$Reader", name := "isDigit", desc := "()Z" } : Jvm.MethodName)) ∈ lw_all := lw_g (lw_at lw_m6 39 rfl) rfl
theorem q1368 : (Jvm.Cond.code ({ cls := "FranchiseLedger$Reader", name := "isDigit", desc := "()Z" } : Jvm.MethodName) prog_11_method_3_code (1 : Nat) (Option.some Jvm.ClassFile.FieldType.boolean)) ∈ lw_all := lw_g (lw_at lw_m6 40 rfl) rfl
theorem q1369 : (Jvm.Cond.constantLong "FranchiseLedger$Reader" (64 : Nat) (48 : Int64)) ∈ lw_all := lw_g (lw_at lw_m6 41 rfl) rfl
theorem q1370 : (Jvm.Cond.constantLong "FranchiseLedger$Reader" (66 : Nat) (57 : Int64)) ∈ lw_all := lw_g (lw_at lw_m6 42 rfl) rfl
theorem q1371 : (Jvm.Cond.methodLink "FranchiseLedger$Reader" (92 : Nat) ({ cls := "FranchiseLedger$Reader", name := "scanNumber", desc := "()V" } : Jvm.MethodName)) ∈ lw_all := lw_g (lw_at lw_m6 43 rfl) rfl
theorem q1372 : (Jvm.Cond.privateMethod ({ cls := "FranchiseLedger$Reader", name := "scanNumber", desc := "()V" } : Jvm.MethodName)) ∈ lw_tbl := lw_at lw_m6 44 rfl
theorem q1373 : (Jvm.Cond.instanceMethod ({ cls := "FranchiseLedger$Reader", name := "scanNumber", desc := "()V" } : Jvm.MethodName)) ∈ lw_all := lw_g (lw_at lw_m6 45 rfl) rfl
theorem q1374 : (Jvm.Cond.code ({ cls := "FranchiseLedger$Reader", name := "scanNumber", desc := "()V" } : Jvm.MethodName) prog_11_method_7_code (1 : Nat) (Option.none : Option Jvm.ClassFile.FieldType)) ∈ lw_all := lw_g (lw_at lw_m6 46 rfl) rfl
theorem q1375 : (Jvm.Cond.fieldLink "FranchiseLedger$Reader" (41 : Nat) "FranchiseLedger$Reader" "length" "I") ∈ lw_all := lw_g (lw_at lw_m6 47 rfl) rfl
theorem q1376 : (Jvm.Cond.fieldLink "FranchiseLedger$Reader" (18 : Nat) "FranchiseLedger$Reader" "made" "LFranchiseLedger$Rules;") ∈ lw_all := lw_g (lw_at lw_m6 48 rfl) rfl
theorem q1378 : (Jvm.Cond.fieldLink "FranchiseLedger$Reader" (27 : Nat) "FranchiseLedger$Reader" "fresh" "LFranchiseLedger$Books;") ∈ lw_all := lw_g (lw_at lw_m6 50 rfl) rfl
theorem q1380 : (Jvm.Cond.fieldLink "FranchiseLedger$Reader" (53 : Nat) "FranchiseLedger$Reader" "next" "I") ∈ lw_all := lw_g (lw_at lw_m6 52 rfl) rfl
theorem q1381 : (Jvm.Cond.fieldLink "FranchiseLedger$Reader" (76 : Nat) "FranchiseLedger$Reader" "start" "I") ∈ lw_all := lw_g (lw_at lw_m6 53 rfl) rfl
theorem q1382 : (Jvm.Cond.fieldLink "FranchiseLedger$Reader" (79 : Nat) "FranchiseLedger$Reader" "type" "I") ∈ lw_all := lw_g (lw_at lw_m6 54 rfl) rfl
theorem q1383 : (Jvm.Cond.fieldLink "FranchiseLedger$Reader" (108 : Nat) "FranchiseLedger$Reader" "number" "I") ∈ lw_all := lw_g (lw_at lw_m6 55 rfl) rfl
theorem q1384 : (Jvm.Cond.fieldLink "FranchiseLedger$Reader" (33 : Nat) "FranchiseLedger$Reader" "word" "Ljava/lang/String;") ∈ lw_all := lw_g (lw_at lw_m6 56 rfl) rfl
theorem q1385 : (Jvm.Cond.fieldLink "FranchiseLedger$Reader" (3 : Nat) "FranchiseLedger$Reader" "this$0" "LFranchiseLedger;") ∈ lw_all := lw_g (lw_at lw_m6 57 rfl) rfl
theorem q1386 : (Jvm.Cond.laysFinal "FranchiseLedger$Reader" "FranchiseLedger$Reader" "length" "I") ∈ lw_all := lw_g (lw_at lw_m6 58 rfl) rfl
theorem q1387 : (Jvm.Cond.soleField "FranchiseLedger$Reader" "length") ∈ lw_all := lw_g (lw_at lw_m6 59 rfl) rfl
theorem q1388 : (Jvm.Cond.laysFinal "FranchiseLedger$Reader" "FranchiseLedger$Reader" "made" "LFranchiseLedger$Rules;") ∈ lw_all := lw_g (lw_at lw_m6 60 rfl) rfl
theorem q1389 : (Jvm.Cond.soleField "FranchiseLedger$Reader" "made") ∈ lw_all := lw_g (lw_at lw_m6 61 rfl) rfl
theorem q1390 : (Jvm.Cond.laysFinal "FranchiseLedger$Reader" "FranchiseLedger$Reader" "fresh" "LFranchiseLedger$Books;") ∈ lw_all := lw_g (lw_at lw_m6 62 rfl) rfl
theorem q1391 : (Jvm.Cond.soleField "FranchiseLedger$Reader" "fresh") ∈ lw_all := lw_g (lw_at lw_m6 63 rfl) rfl
theorem q1392 : (Jvm.Cond.lays "FranchiseLedger$Reader" "FranchiseLedger$Reader" "next" "I") ∈ lw_all := lw_g (lw_at lw_m6 64 rfl) rfl
theorem q1393 : (Jvm.Cond.soleField "FranchiseLedger$Reader" "next") ∈ lw_all := lw_g (lw_at lw_m6 65 rfl) rfl
theorem q1394 : (Jvm.Cond.lays "FranchiseLedger$Reader" "FranchiseLedger$Reader" "start" "I") ∈ lw_all := lw_g (lw_at lw_m6 66 rfl) rfl
theorem q1395 : (Jvm.Cond.soleField "FranchiseLedger$Reader" "start") ∈ lw_all := lw_g (lw_at lw_m6 67 rfl) rfl
theorem q1396 : (Jvm.Cond.lays "FranchiseLedger$Reader" "FranchiseLedger$Reader" "type" "I") ∈ lw_all := lw_g (lw_at lw_m6 68 rfl) rfl
theorem q1397 : (Jvm.Cond.soleField "FranchiseLedger$Reader" "type") ∈ lw_all := lw_g (lw_at lw_m6 69 rfl) rfl
theorem q1398 : (Jvm.Cond.lays "FranchiseLedger$Reader" "FranchiseLedger$Reader" "number" "I") ∈ lw_all := lw_g (lw_at lw_m6 70 rfl) rfl
theorem q1399 : (Jvm.Cond.soleField "FranchiseLedger$Reader" "number") ∈ lw_all := lw_g (lw_at lw_m6 71 rfl) rfl
theorem q1400 : (Jvm.Cond.lays "FranchiseLedger$Reader" "FranchiseLedger$Reader" "word" "Ljava/lang/String;") ∈ lw_all := lw_g (lw_at lw_m6 72 rfl) rfl
theorem q1401 : (Jvm.Cond.soleField "FranchiseLedger$Reader" "word") ∈ lw_all := lw_g (lw_at lw_m6 73 rfl) rfl
theorem q1402 : (Jvm.Cond.laysFinal "FranchiseLedger$Reader" "FranchiseLedger$Reader" "this$0" "LFranchiseLedger;") ∈ lw_all := lw_g (lw_at lw_m6 74 rfl) rfl
theorem q1403 : (Jvm.Cond.soleField "FranchiseLedger$Reader" "this$0") ∈ lw_all := lw_g (lw_at lw_m6 75 rfl) rfl
theorem q1404 : (Jvm.Cond.superclass "FranchiseLedger$Reader" "java/lang/Object") ∈ lw_all := lw_g (lw_at lw_m6 76 rfl) rfl
theorem q1406 : (Jvm.Cond.instanceMethod ({ cls := "FranchiseLedger$Reader", name := "readJournal", desc := "(Ljava/util/List;)V" } : Jvm.MethodName)) ∈ lw_all := lw_g (lw_at lw_m6 78 rfl) rfl
theorem q1407 : (Jvm.Cond.selects "FranchiseLedger$Reader" ({ cls := "FranchiseLedger$Reader", name := "readJournal", desc := "(Ljava/util/List;)V" } : Jvm.MethodName) ({ cls := "FranchiseLedger$Reader", name := "readJournal", desc := "(Ljava/util/List;)V" } : Jvm.MethodName)) ∈ lw_all := lw_g (lw_at lw_m6 79 rfl) rfl
theorem q1408 : (Jvm.Cond.code ({ cls := "FranchiseLedger$Reader", name := "readJournal", desc := "(Ljava/util/List;)V" } : Jvm.MethodName) prog_11_method_30_code (3 : Nat) (Option.none : Option Jvm.ClassFile.FieldType)) ∈ lw_all := lw_g (lw_at lw_m6 80 rfl) rfl
theorem q1409 : (Jvm.Cond.methodLink "FranchiseLedger$Reader" (322 : Nat) ({ cls := "FranchiseLedger$Reader", name := "kindHere", desc := "()I" } : Jvm.MethodName)) ∈ lw_all := lw_g (lw_at lw_m6 81 rfl) rfl
theorem q1410 : (Jvm.Cond.privateMethod ({ cls := "FranchiseLedger$Reader", name := "kindHere", desc := "()I" } : Jvm.MethodName)) ∈ lw_tbl := lw_at lw_m6 82 rfl
theorem q1411 : (Jvm.Cond.instanceMethod ({ cls := "FranchiseLedger$Reader", name := "kindHere", desc := "()I" } : Jvm.MethodName)) ∈ lw_all := lw_g (lw_at lw_m6 83 rfl) rfl
theorem q1412 : (Jvm.Cond.code ({ cls := "FranchiseLedger$Reader", name := "kindHere", desc := "()I" } : Jvm.MethodName) prog_11_method_28_code (3 : Nat) (Option.some Jvm.ClassFile.FieldType.int)) ∈ lw_all := lw_g (lw_at lw_m6 84 rfl) rfl
theorem q1413 : (Jvm.Cond.methodLink "FranchiseLedger$Reader" (116 : Nat) ({ cls := "FranchiseLedger$Reader", name := "require", desc := "(ZI)V" } : Jvm.MethodName)) ∈ lw_all := lw_g (lw_at lw_m6 85 rfl) rfl
theorem q1414 : (Jvm.Cond.privateMethod ({ cls := "FranchiseLedger$Reader", name := "require", desc := "(ZI)V" } : Jvm.MethodName)) ∈ lw_tbl := lw_at lw_m6 86 rfl
theorem q1415 : (Jvm.Cond.instanceMethod ({ cls := "FranchiseLedger$Reader", name := "require", desc := "(ZI)V" } : Jvm.MethodName)) ∈ lw_all := lw_g (lw_at lw_m6 87 rfl) rfl
theorem q1416 : (Jvm.Cond.code ({ cls := "FranchiseLedger$Reader", name := "require", desc := "(ZI)V" } : Jvm.MethodName) prog_11_method_8_code (3 : Nat) (Option.none : Option Jvm.ClassFile.FieldType)) ∈ lw_all := lw_g (lw_at lw_m6 88 rfl) rfl
theorem q1417 : (Jvm.Cond.classLink "FranchiseLedger$Reader" (111 : Nat) "FranchiseLedger$TextError") ∈ lw_all := lw_g (lw_at lw_m6 89 rfl) rfl
theorem q1426 : (Jvm.Cond.methodLink "FranchiseLedger$Reader" (113 : Nat) ({ cls := "FranchiseLedger$TextError", name := "<init>", desc := "(II)V" } : Jvm.MethodName)) ∈ lw_all := lw_g (lw_at lw_m6 98 rfl) rfl
theorem q1445 : (Jvm.Cond.methodLink "FranchiseLedger$Reader" (124 : Nat) ({ cls := "java/lang/String", name := "hashCode", desc := "()I" } : Jvm.MethodName)) ∈ lw_all := lw_g (lw_at lw_m6 117 rfl) rfl
theorem q1502 : (Jvm.Cond.stringRef "FranchiseLedger$Reader" (296 : Nat) "sales") ∈ lw_tbl := lw_at lw_m6 174 rfl
theorem q1503 : (Jvm.Cond.methodLink "FranchiseLedger$Reader" (131 : Nat) ({ cls := "java/lang/String", name := "equals", desc := "(Ljava/lang/Object;)Z" } : Jvm.MethodName)) ∈ lw_all := lw_g (lw_at lw_m6 175 rfl) rfl
theorem q1504 : (Jvm.Cond.stringRef "FranchiseLedger$Reader" (298 : Nat) "deliver") ∈ lw_tbl := lw_at lw_m6 176 rfl
theorem q1505 : (Jvm.Cond.stringRef "FranchiseLedger$Reader" (300 : Nat) "pay") ∈ lw_tbl := lw_at lw_m6 177 rfl
theorem q1506 : (Jvm.Cond.stringRef "FranchiseLedger$Reader" (302 : Nat) "grant") ∈ lw_tbl := lw_at lw_m6 178 rfl
theorem q1507 : (Jvm.Cond.stringRef "FranchiseLedger$Reader" (304 : Nat) "campaign") ∈ lw_tbl := lw_at lw_m6 179 rfl
theorem q1508 : (Jvm.Cond.stringRef "FranchiseLedger$Reader" (306 : Nat) "vote") ∈ lw_tbl := lw_at lw_m6 180 rfl
theorem q1509 : (Jvm.Cond.stringRef "FranchiseLedger$Reader" (308 : Nat) "close") ∈ lw_tbl := lw_at lw_m6 181 rfl
theorem q1510 : (Jvm.Cond.interfaceEntry "FranchiseLedger$Reader" (157 : Nat)) ∈ lw_tbl := lw_at lw_m6 182 rfl
theorem q1511 : (Jvm.Cond.methodLink "FranchiseLedger$Reader" (157 : Nat) ({ cls := "java/util/List", name := "size", desc := "()I" } : Jvm.MethodName)) ∈ lw_all := lw_g (lw_at lw_m6 183 rfl) rfl
theorem q1512 : (Jvm.Cond.methodLink "FranchiseLedger$Reader" (325 : Nat) ({ cls := "FranchiseLedger$Reader", name := "posting", desc := "(I)LFranchiseLedger$Posting;" } : Jvm.MethodName)) ∈ lw_all := lw_g (lw_at lw_m6 184 rfl) rfl
theorem q1513 : (Jvm.Cond.privateMethod ({ cls := "FranchiseLedger$Reader", name := "posting", desc := "(I)LFranchiseLedger$Posting;" } : Jvm.MethodName)) ∈ lw_tbl := lw_at lw_m6 185 rfl
theorem q1514 : (Jvm.Cond.instanceMethod ({ cls := "FranchiseLedger$Reader", name := "posting", desc := "(I)LFranchiseLedger$Posting;" } : Jvm.MethodName)) ∈ lw_all := lw_g (lw_at lw_m6 186 rfl) rfl
theorem q1515 : (Jvm.Cond.code ({ cls := "FranchiseLedger$Reader", name := "posting", desc := "(I)LFranchiseLedger$Posting;" } : Jvm.MethodName) prog_11_method_29_code (2 : Nat) (Option.some (Jvm.ClassFile.FieldType.object "FranchiseLedger$Posting"))) ∈ lw_all := lw_g (lw_at lw_m6 187 rfl) rfl
theorem q1516 : (Jvm.Cond.methodLink "FranchiseLedger$Reader" (310 : Nat) ({ cls := "FranchiseLedger$Reader", name := "sales", desc := "()LFranchiseLedger$Posting;" } : Jvm.MethodName)) ∈ lw_all := lw_g (lw_at lw_m6 188 rfl) rfl
theorem q1517 : (Jvm.Cond.privateMethod ({ cls := "FranchiseLedger$Reader", name := "sales", desc := "()LFranchiseLedger$Posting;" } : Jvm.MethodName)) ∈ lw_tbl := lw_at lw_m6 189 rfl
theorem q1518 : (Jvm.Cond.instanceMethod ({ cls := "FranchiseLedger$Reader", name := "sales", desc := "()LFranchiseLedger$Posting;" } : Jvm.MethodName)) ∈ lw_all := lw_g (lw_at lw_m6 190 rfl) rfl
theorem q1519 : (Jvm.Cond.code ({ cls := "FranchiseLedger$Reader", name := "sales", desc := "()LFranchiseLedger$Posting;" } : Jvm.MethodName) prog_11_method_24_code (2 : Nat) (Option.some (Jvm.ClassFile.FieldType.object "FranchiseLedger$Posting"))) ∈ lw_all := lw_g (lw_at lw_m6 191 rfl) rfl
theorem q1520 : (Jvm.Cond.methodLink "FranchiseLedger$Reader" (164 : Nat) ({ cls := "FranchiseLedger$Reader", name := "number", desc := "(II)I" } : Jvm.MethodName)) ∈ lw_all := lw_g (lw_at lw_m6 192 rfl) rfl
theorem q1521 : (Jvm.Cond.privateMethod ({ cls := "FranchiseLedger$Reader", name := "number", desc := "(II)I" } : Jvm.MethodName)) ∈ lw_tbl := lw_at lw_m6 193 rfl
theorem q1522 : (Jvm.Cond.instanceMethod ({ cls := "FranchiseLedger$Reader", name := "number", desc := "(II)I" } : Jvm.MethodName)) ∈ lw_all := lw_g (lw_at lw_m6 194 rfl) rfl
theorem q1523 : (Jvm.Cond.code ({ cls := "FranchiseLedger$Reader", name := "number", desc := "(II)I" } : Jvm.MethodName) prog_11_method_10_code (4 : Nat) (Option.some Jvm.ClassFile.FieldType.int)) ∈ lw_all := lw_g (lw_at lw_m6 195 rfl) rfl
theorem q1524 : (Jvm.Cond.methodLink "FranchiseLedger$Reader" (120 : Nat) ({ cls := "FranchiseLedger$Reader", name := "figure", desc := "(II)I" } : Jvm.MethodName)) ∈ lw_all := lw_g (lw_at lw_m6 196 rfl) rfl
theorem q1525 : (Jvm.Cond.privateMethod ({ cls := "FranchiseLedger$Reader", name := "figure", desc := "(II)I" } : Jvm.MethodName)) ∈ lw_tbl := lw_at lw_m6 197 rfl
theorem q1526 : (Jvm.Cond.instanceMethod ({ cls := "FranchiseLedger$Reader", name := "figure", desc := "(II)I" } : Jvm.MethodName)) ∈ lw_all := lw_g (lw_at lw_m6 198 rfl) rfl
theorem q1527 : (Jvm.Cond.code ({ cls := "FranchiseLedger$Reader", name := "figure", desc := "(II)I" } : Jvm.MethodName) prog_11_method_9_code (3 : Nat) (Option.some Jvm.ClassFile.FieldType.int)) ∈ lw_all := lw_g (lw_at lw_m6 199 rfl) rfl
theorem q1528 : (Jvm.Cond.classLink "FranchiseLedger$Reader" (278 : Nat) "FranchiseLedger$Posting") ∈ lw_all := lw_g (lw_at lw_m6 200 rfl) rfl
theorem q1530 : (Jvm.Cond.constant "FranchiseLedger$Reader" (280 : Nat) (100000 : Int32)) ∈ lw_all := lw_g (lw_at lw_m6 202 rfl) rfl
theorem q1531 : (Jvm.Cond.methodLink "FranchiseLedger$Reader" (281 : Nat) ({ cls := "FranchiseLedger$Reader", name := "dollars", desc := "(II)J" } : Jvm.MethodName)) ∈ lw_all := lw_g (lw_at lw_m6 203 rfl) rfl
theorem q1532 : (Jvm.Cond.privateMethod ({ cls := "FranchiseLedger$Reader", name := "dollars", desc := "(II)J" } : Jvm.MethodName)) ∈ lw_tbl := lw_at lw_m6 204 rfl
theorem q1533 : (Jvm.Cond.instanceMethod ({ cls := "FranchiseLedger$Reader", name := "dollars", desc := "(II)J" } : Jvm.MethodName)) ∈ lw_all := lw_g (lw_at lw_m6 205 rfl) rfl
theorem q1534 : (Jvm.Cond.code ({ cls := "FranchiseLedger$Reader", name := "dollars", desc := "(II)J" } : Jvm.MethodName) prog_11_method_23_code (3 : Nat) (Option.some Jvm.ClassFile.FieldType.long)) ∈ lw_all := lw_g (lw_at lw_m6 206 rfl) rfl
theorem q1535 : (Jvm.Cond.constantLong "FranchiseLedger$Reader" (179 : Nat) (100 : Int64)) ∈ lw_all := lw_g (lw_at lw_m6 207 rfl) rfl
theorem q1536 : (Jvm.Cond.methodLinkNest "FranchiseLedger$Reader" (285 : Nat) ({ cls := "FranchiseLedger$Posting", name := "<init>", desc := "(IIIIJ)V" } : Jvm.MethodName) "FranchiseLedger") ∈ lw_tbl := lw_at lw_m6 208 rfl
theorem q1556 : (Jvm.Cond.methodLink "FranchiseLedger$Reader" (313 : Nat) ({ cls := "FranchiseLedger$Reader", name := "delivery", desc := "()LFranchiseLedger$Posting;" } : Jvm.MethodName)) ∈ lw_all := lw_g (lw_at lw_m6 228 rfl) rfl
theorem q1557 : (Jvm.Cond.privateMethod ({ cls := "FranchiseLedger$Reader", name := "delivery", desc := "()LFranchiseLedger$Posting;" } : Jvm.MethodName)) ∈ lw_tbl := lw_at lw_m6 229 rfl
theorem q1558 : (Jvm.Cond.instanceMethod ({ cls := "FranchiseLedger$Reader", name := "delivery", desc := "()LFranchiseLedger$Posting;" } : Jvm.MethodName)) ∈ lw_all := lw_g (lw_at lw_m6 230 rfl) rfl
theorem q1559 : (Jvm.Cond.code ({ cls := "FranchiseLedger$Reader", name := "delivery", desc := "()LFranchiseLedger$Posting;" } : Jvm.MethodName) prog_11_method_25_code (4 : Nat) (Option.some (Jvm.ClassFile.FieldType.object "FranchiseLedger$Posting"))) ∈ lw_all := lw_g (lw_at lw_m6 231 rfl) rfl
theorem q1560 : (Jvm.Cond.methodLink "FranchiseLedger$Reader" (316 : Nat) ({ cls := "FranchiseLedger$Reader", name := "toFranchisee", desc := "(I)LFranchiseLedger$Posting;" } : Jvm.MethodName)) ∈ lw_all := lw_g (lw_at lw_m6 232 rfl) rfl
theorem q1561 : (Jvm.Cond.privateMethod ({ cls := "FranchiseLedger$Reader", name := "toFranchisee", desc := "(I)LFranchiseLedger$Posting;" } : Jvm.MethodName)) ∈ lw_tbl := lw_at lw_m6 233 rfl
theorem q1562 : (Jvm.Cond.instanceMethod ({ cls := "FranchiseLedger$Reader", name := "toFranchisee", desc := "(I)LFranchiseLedger$Posting;" } : Jvm.MethodName)) ∈ lw_all := lw_g (lw_at lw_m6 234 rfl) rfl
theorem q1563 : (Jvm.Cond.code ({ cls := "FranchiseLedger$Reader", name := "toFranchisee", desc := "(I)LFranchiseLedger$Posting;" } : Jvm.MethodName) prog_11_method_26_code (3 : Nat) (Option.some (Jvm.ClassFile.FieldType.object "FranchiseLedger$Posting"))) ∈ lw_all := lw_g (lw_at lw_m6 235 rfl) rfl
theorem q1564 : (Jvm.Cond.methodLink "FranchiseLedger$Reader" (197 : Nat) ({ cls := "FranchiseLedger$Reader", name := "namedIn", desc := "(LFranchiseLedger$Rules;)I" } : Jvm.MethodName)) ∈ lw_all := lw_g (lw_at lw_m6 236 rfl) rfl
theorem q1565 : (Jvm.Cond.privateMethod ({ cls := "FranchiseLedger$Reader", name := "namedIn", desc := "(LFranchiseLedger$Rules;)I" } : Jvm.MethodName)) ∈ lw_tbl := lw_at lw_m6 237 rfl
theorem q1566 : (Jvm.Cond.instanceMethod ({ cls := "FranchiseLedger$Reader", name := "namedIn", desc := "(LFranchiseLedger$Rules;)I" } : Jvm.MethodName)) ∈ lw_all := lw_g (lw_at lw_m6 238 rfl) rfl
theorem q1567 : (Jvm.Cond.code ({ cls := "FranchiseLedger$Reader", name := "namedIn", desc := "(LFranchiseLedger$Rules;)I" } : Jvm.MethodName) prog_11_method_15_code (3 : Nat) (Option.some Jvm.ClassFile.FieldType.int)) ∈ lw_all := lw_g (lw_at lw_m6 239 rfl) rfl
theorem q1568 : (Jvm.Cond.methodLink "FranchiseLedger$Reader" (184 : Nat) ({ cls := "FranchiseLedger$Reader", name := "isReserved", desc := "()Z" } : Jvm.MethodName)) ∈ lw_all := lw_g (lw_at lw_m7 0 rfl) rfl
theorem q1569 : (Jvm.Cond.privateMethod ({ cls := "FranchiseLedger$Reader", name := "isReserved", desc := "()Z" } : Jvm.MethodName)) ∈ lw_tbl := lw_at lw_m7 1 rfl
theorem q1570 : (Jvm.Cond.instanceMethod ({ cls := "FranchiseLedger$Reader", name := "isReserved", desc := "()Z" } : Jvm.MethodName)) ∈ lw_all := lw_g (lw_at lw_m7 2 rfl) rfl
theorem q1571 : (Jvm.Cond.code ({ cls := "FranchiseLedger$Reader", name := "isReserved", desc := "()Z" } : Jvm.MethodName) prog_11_method_11_code (3 : Nat) (Option.some Jvm.ClassFile.FieldType.boolean)) ∈ lw_all := lw_g (lw_at lw_m7 3 rfl) rfl
theorem q1572 : (Jvm.Cond.stringRef "FranchiseLedger$Reader" (129 : Nat) "plan") ∈ lw_tbl := lw_at lw_m7 4 rfl
theorem q1573 : (Jvm.Cond.stringRef "FranchiseLedger$Reader" (135 : Nat) "franchisee") ∈ lw_tbl := lw_at lw_m7 5 rfl
theorem q1574 : (Jvm.Cond.stringRef "FranchiseLedger$Reader" (137 : Nat) "area") ∈ lw_tbl := lw_at lw_m7 6 rfl
theorem q1575 : (Jvm.Cond.stringRef "FranchiseLedger$Reader" (139 : Nat) "outlet") ∈ lw_tbl := lw_at lw_m7 7 rfl
theorem q1576 : (Jvm.Cond.stringRef "FranchiseLedger$Reader" (141 : Nat) "credit") ∈ lw_tbl := lw_at lw_m7 8 rfl
theorem q1577 : (Jvm.Cond.stringRef "FranchiseLedger$Reader" (143 : Nat) "interest") ∈ lw_tbl := lw_at lw_m7 9 rfl
theorem q1578 : (Jvm.Cond.stringRef "FranchiseLedger$Reader" (145 : Nat) "admin") ∈ lw_tbl := lw_at lw_m7 10 rfl
theorem q1579 : (Jvm.Cond.stringRef "FranchiseLedger$Reader" (147 : Nat) "fee") ∈ lw_tbl := lw_at lw_m7 11 rfl
theorem q1580 : (Jvm.Cond.stringRef "FranchiseLedger$Reader" (149 : Nat) "delay") ∈ lw_tbl := lw_at lw_m7 12 rfl
theorem q1581 : (Jvm.Cond.stringRef "FranchiseLedger$Reader" (151 : Nat) "worth") ∈ lw_tbl := lw_at lw_m7 13 rfl
theorem q1582 : (Jvm.Cond.methodLink "FranchiseLedger$Reader" (187 : Nat) ({ cls := "FranchiseLedger$Rules", name := "named", desc := "(Ljava/lang/CharSequence;)I" } : Jvm.MethodName)) ∈ lw_all := lw_g (lw_at lw_m7 14 rfl) rfl
theorem q1583 : (Jvm.Cond.constant "FranchiseLedger$Reader" (291 : Nat) (999999 : Int32)) ∈ lw_all := lw_g (lw_at lw_m7 15 rfl) rfl
theorem q1584 : (Jvm.Cond.methodLink "FranchiseLedger$Reader" (320 : Nat) ({ cls := "FranchiseLedger$Reader", name := "vote", desc := "()LFranchiseLedger$Posting;" } : Jvm.MethodName)) ∈ lw_all := lw_g (lw_at lw_m7 16 rfl) rfl
theorem q1585 : (Jvm.Cond.privateMethod ({ cls := "FranchiseLedger$Reader", name := "vote", desc := "()LFranchiseLedger$Posting;" } : Jvm.MethodName)) ∈ lw_tbl := lw_at lw_m7 17 rfl
theorem q1586 : (Jvm.Cond.instanceMethod ({ cls := "FranchiseLedger$Reader", name := "vote", desc := "()LFranchiseLedger$Posting;" } : Jvm.MethodName)) ∈ lw_all := lw_g (lw_at lw_m7 18 rfl) rfl
theorem q1587 : (Jvm.Cond.code ({ cls := "FranchiseLedger$Reader", name := "vote", desc := "()LFranchiseLedger$Posting;" } : Jvm.MethodName) prog_11_method_27_code (4 : Nat) (Option.some (Jvm.ClassFile.FieldType.object "FranchiseLedger$Posting"))) ∈ lw_all := lw_g (lw_at lw_m7 19 rfl) rfl
theorem q1588 : (Jvm.Cond.stringRef "FranchiseLedger$Reader" (292 : Nat) "yes") ∈ lw_tbl := lw_at lw_m7 20 rfl
theorem q1589 : (Jvm.Cond.stringRef "FranchiseLedger$Reader" (294 : Nat) "no") ∈ lw_tbl := lw_at lw_m7 21 rfl
theorem q1590 : (Jvm.Cond.interfaceEntry "FranchiseLedger$Reader" (175 : Nat)) ∈ lw_tbl := lw_at lw_m7 22 rfl
theorem q1591 : (Jvm.Cond.methodLink "FranchiseLedger$Reader" (175 : Nat) ({ cls := "java/util/List", name := "add", desc := "(Ljava/lang/Object;)Z" } : Jvm.MethodName)) ∈ lw_all := lw_g (lw_at lw_m7 23 rfl) rfl
theorem q1610 : (Jvm.Cond.instanceMethod ({ cls := "FranchiseLedger$Reader", name := "read", desc := "()V" } : Jvm.MethodName)) ∈ lw_all := lw_g (lw_at lw_m7 42 rfl) rfl
theorem q1611 : (Jvm.Cond.selects "FranchiseLedger$Reader" ({ cls := "FranchiseLedger$Reader", name := "read", desc := "()V" } : Jvm.MethodName) ({ cls := "FranchiseLedger$Reader", name := "read", desc := "()V" } : Jvm.MethodName)) ∈ lw_all := lw_g (lw_at lw_m7 43 rfl) rfl
theorem q1612 : (Jvm.Cond.code ({ cls := "FranchiseLedger$Reader", name := "read", desc := "()V" } : Jvm.MethodName) prog_11_method_22_code (1 : Nat) (Option.none : Option Jvm.ClassFile.FieldType)) ∈ lw_all := lw_g (lw_at lw_m7 44 rfl) rfl
theorem q1613 : (Jvm.Cond.methodLink "FranchiseLedger$Reader" (275 : Nat) ({ cls := "FranchiseLedger$Reader", name := "statement", desc := "()V" } : Jvm.MethodName)) ∈ lw_all := lw_g (lw_at lw_m7 45 rfl) rfl
theorem q1614 : (Jvm.Cond.privateMethod ({ cls := "FranchiseLedger$Reader", name := "statement", desc := "()V" } : Jvm.MethodName)) ∈ lw_tbl := lw_at lw_m7 46 rfl
theorem q1615 : (Jvm.Cond.instanceMethod ({ cls := "FranchiseLedger$Reader", name := "statement", desc := "()V" } : Jvm.MethodName)) ∈ lw_all := lw_g (lw_at lw_m7 47 rfl) rfl
theorem q1616 : (Jvm.Cond.code ({ cls := "FranchiseLedger$Reader", name := "statement", desc := "()V" } : Jvm.MethodName) prog_11_method_21_code (3 : Nat) (Option.none : Option Jvm.ClassFile.FieldType)) ∈ lw_all := lw_g (lw_at lw_m7 48 rfl) rfl
theorem q1617 : (Jvm.Cond.methodLink "FranchiseLedger$Reader" (260 : Nat) ({ cls := "FranchiseLedger$Reader", name := "plan", desc := "()V" } : Jvm.MethodName)) ∈ lw_all := lw_g (lw_at lw_m7 49 rfl) rfl
theorem q1618 : (Jvm.Cond.privateMethod ({ cls := "FranchiseLedger$Reader", name := "plan", desc := "()V" } : Jvm.MethodName)) ∈ lw_tbl := lw_at lw_m7 50 rfl
theorem q1619 : (Jvm.Cond.instanceMethod ({ cls := "FranchiseLedger$Reader", name := "plan", desc := "()V" } : Jvm.MethodName)) ∈ lw_all := lw_g (lw_at lw_m7 51 rfl) rfl
theorem q1620 : (Jvm.Cond.code ({ cls := "FranchiseLedger$Reader", name := "plan", desc := "()V" } : Jvm.MethodName) prog_11_method_12_code (3 : Nat) (Option.none : Option Jvm.ClassFile.FieldType)) ∈ lw_all := lw_g (lw_at lw_m7 52 rfl) rfl
theorem q1621 : (Jvm.Cond.classLink "FranchiseLedger$Reader" (162 : Nat) "FranchiseLedger$Plan") ∈ lw_all := lw_g (lw_at lw_m7 53 rfl) rfl
theorem q1623 : (Jvm.Cond.methodLink "FranchiseLedger$Reader" (166 : Nat) ({ cls := "FranchiseLedger$Plan", name := "<init>", desc := "(I)V" } : Jvm.MethodName)) ∈ lw_all := lw_g (lw_at lw_m7 55 rfl) rfl
theorem q1634 : (Jvm.Cond.fieldLinkNest "FranchiseLedger$Reader" (167 : Nat) "FranchiseLedger$Plan" "tiers" "Ljava/util/List;" "FranchiseLedger") ∈ lw_tbl := lw_at lw_m7 66 rfl
theorem q1640 : (Jvm.Cond.classLink "FranchiseLedger$Reader" (170 : Nat) "FranchiseLedger$Tier") ∈ lw_all := lw_g (lw_at lw_m7 72 rfl) rfl
theorem q1642 : (Jvm.Cond.methodLinkNest "FranchiseLedger$Reader" (172 : Nat) ({ cls := "FranchiseLedger$Tier", name := "<init>", desc := "(JI)V" } : Jvm.MethodName) "FranchiseLedger") ∈ lw_tbl := lw_at lw_m7 74 rfl
theorem q1653 : (Jvm.Cond.constant "FranchiseLedger$Reader" (178 : Nat) (99999 : Int32)) ∈ lw_all := lw_g (lw_at lw_m7 85 rfl) rfl
theorem q1654 : (Jvm.Cond.methodLink "FranchiseLedger$Reader" (262 : Nat) ({ cls := "FranchiseLedger$Reader", name := "franchisee", desc := "()V" } : Jvm.MethodName)) ∈ lw_all := lw_g (lw_at lw_m7 86 rfl) rfl
theorem q1655 : (Jvm.Cond.privateMethod ({ cls := "FranchiseLedger$Reader", name := "franchisee", desc := "()V" } : Jvm.MethodName)) ∈ lw_tbl := lw_at lw_m7 87 rfl
theorem q1656 : (Jvm.Cond.instanceMethod ({ cls := "FranchiseLedger$Reader", name := "franchisee", desc := "()V" } : Jvm.MethodName)) ∈ lw_all := lw_g (lw_at lw_m7 88 rfl) rfl
theorem q1657 : (Jvm.Cond.code ({ cls := "FranchiseLedger$Reader", name := "franchisee", desc := "()V" } : Jvm.MethodName) prog_11_method_13_code (3 : Nat) (Option.none : Option Jvm.ClassFile.FieldType)) ∈ lw_all := lw_g (lw_at lw_m7 89 rfl) rfl
theorem q1658 : (Jvm.Cond.classLink "FranchiseLedger$Reader" (191 : Nat) "FranchiseLedger$Franchisee") ∈ lw_all := lw_g (lw_at lw_m7 90 rfl) rfl
theorem q1659 : (Jvm.Cond.methodLink "FranchiseLedger$Reader" (193 : Nat) ({ cls := "FranchiseLedger$Franchisee", name := "<init>", desc := "(II)V" } : Jvm.MethodName)) ∈ lw_all := lw_g (lw_at lw_m7 91 rfl) rfl
theorem q1660 : (Jvm.Cond.methodLink "FranchiseLedger$Reader" (264 : Nat) ({ cls := "FranchiseLedger$Reader", name := "area", desc := "()V" } : Jvm.MethodName)) ∈ lw_all := lw_g (lw_at lw_m7 92 rfl) rfl
theorem q1661 : (Jvm.Cond.privateMethod ({ cls := "FranchiseLedger$Reader", name := "area", desc := "()V" } : Jvm.MethodName)) ∈ lw_tbl := lw_at lw_m7 93 rfl
theorem q1662 : (Jvm.Cond.instanceMethod ({ cls := "FranchiseLedger$Reader", name := "area", desc := "()V" } : Jvm.MethodName)) ∈ lw_all := lw_g (lw_at lw_m7 94 rfl) rfl
theorem q1663 : (Jvm.Cond.code ({ cls := "FranchiseLedger$Reader", name := "area", desc := "()V" } : Jvm.MethodName) prog_11_method_17_code (7 : Nat) (Option.none : Option Jvm.ClassFile.FieldType)) ∈ lw_all := lw_g (lw_at lw_m7 95 rfl) rfl
theorem q1664 : (Jvm.Cond.methodLink "FranchiseLedger$Reader" (216 : Nat) ({ cls := "FranchiseLedger$Reader", name := "named", desc := "()I" } : Jvm.MethodName)) ∈ lw_all := lw_g (lw_at lw_m7 96 rfl) rfl
theorem q1665 : (Jvm.Cond.privateMethod ({ cls := "FranchiseLedger$Reader", name := "named", desc := "()I" } : Jvm.MethodName)) ∈ lw_tbl := lw_at lw_m7 97 rfl
theorem q1666 : (Jvm.Cond.instanceMethod ({ cls := "FranchiseLedger$Reader", name := "named", desc := "()I" } : Jvm.MethodName)) ∈ lw_all := lw_g (lw_at lw_m7 98 rfl) rfl
theorem q1667 : (Jvm.Cond.code ({ cls := "FranchiseLedger$Reader", name := "named", desc := "()I" } : Jvm.MethodName) prog_11_method_14_code (1 : Nat) (Option.some Jvm.ClassFile.FieldType.int)) ∈ lw_all := lw_g (lw_at lw_m7 99 rfl) rfl
theorem q1668 : (Jvm.Cond.classLink "FranchiseLedger$Reader" (202 : Nat) "FranchiseLedger$Area") ∈ lw_all := lw_g (lw_at lw_m7 100 rfl) rfl
theorem q1670 : (Jvm.Cond.methodLinkNest "FranchiseLedger$Reader" (218 : Nat) ({ cls := "FranchiseLedger$Area", name := "<init>", desc := "(IIII)V" } : Jvm.MethodName) "FranchiseLedger") ∈ lw_tbl := lw_at lw_m7 102 rfl
theorem q1687 : (Jvm.Cond.methodLink "FranchiseLedger$Reader" (221 : Nat) ({ cls := "FranchiseLedger$Reader", name := "isFreeFor", desc := "(ILFranchiseLedger$Area;)Z" } : Jvm.MethodName)) ∈ lw_all := lw_g (lw_at lw_m7 119 rfl) rfl
theorem q1688 : (Jvm.Cond.privateMethod ({ cls := "FranchiseLedger$Reader", name := "isFreeFor", desc := "(ILFranchiseLedger$Area;)Z" } : Jvm.MethodName)) ∈ lw_tbl := lw_at lw_m7 120 rfl
theorem q1689 : (Jvm.Cond.instanceMethod ({ cls := "FranchiseLedger$Reader", name := "isFreeFor", desc := "(ILFranchiseLedger$Area;)Z" } : Jvm.MethodName)) ∈ lw_all := lw_g (lw_at lw_m7 121 rfl) rfl
theorem q1690 : (Jvm.Cond.code ({ cls := "FranchiseLedger$Reader", name := "isFreeFor", desc := "(ILFranchiseLedger$Area;)Z" } : Jvm.MethodName) prog_11_method_16_code (4 : Nat) (Option.some Jvm.ClassFile.FieldType.boolean)) ∈ lw_all := lw_g (lw_at lw_m7 122 rfl) rfl
theorem q1691 : (Jvm.Cond.methodLink "FranchiseLedger$Reader" (201 : Nat) ({ cls := "FranchiseLedger$Area", name := "contains", desc := "(I)Z" } : Jvm.MethodName)) ∈ lw_all := lw_g (lw_at lw_m7 123 rfl) rfl
theorem q1702 : (Jvm.Cond.methodLink "FranchiseLedger$Reader" (266 : Nat) ({ cls := "FranchiseLedger$Reader", name := "outlet", desc := "()V" } : Jvm.MethodName)) ∈ lw_all := lw_g (lw_at lw_m7 134 rfl) rfl
theorem q1703 : (Jvm.Cond.privateMethod ({ cls := "FranchiseLedger$Reader", name := "outlet", desc := "()V" } : Jvm.MethodName)) ∈ lw_tbl := lw_at lw_m7 135 rfl
theorem q1704 : (Jvm.Cond.instanceMethod ({ cls := "FranchiseLedger$Reader", name := "outlet", desc := "()V" } : Jvm.MethodName)) ∈ lw_all := lw_g (lw_at lw_m7 136 rfl) rfl
theorem q1705 : (Jvm.Cond.code ({ cls := "FranchiseLedger$Reader", name := "outlet", desc := "()V" } : Jvm.MethodName) prog_11_method_18_code (4 : Nat) (Option.none : Option Jvm.ClassFile.FieldType)) ∈ lw_all := lw_g (lw_at lw_m7 137 rfl) rfl
theorem q1706 : (Jvm.Cond.methodLinkNest "FranchiseLedger$Reader" (228 : Nat) ({ cls := "FranchiseLedger", name := "cell", desc := "(II)I" } : Jvm.MethodName) "FranchiseLedger") ∈ lw_tbl := lw_at lw_m7 138 rfl
theorem q1709 : (Jvm.Cond.methodLink "FranchiseLedger$Reader" (231 : Nat) ({ cls := "FranchiseLedger$Books", name := "hasOutlet", desc := "(I)Z" } : Jvm.MethodName)) ∈ lw_all := lw_g (lw_at lw_m7 141 rfl) rfl
theorem q1717 : (Jvm.Cond.classLink "FranchiseLedger$Reader" (234 : Nat) "FranchiseLedger$Outlet") ∈ lw_all := lw_g (lw_at lw_m7 149 rfl) rfl
theorem q1718 : (Jvm.Cond.methodLink "FranchiseLedger$Reader" (236 : Nat) ({ cls := "FranchiseLedger$Outlet", name := "<init>", desc := "(II)V" } : Jvm.MethodName)) ∈ lw_all := lw_g (lw_at lw_m7 150 rfl) rfl
theorem q1722 : (Jvm.Cond.methodLink "FranchiseLedger$Reader" (268 : Nat) ({ cls := "FranchiseLedger$Reader", name := "setting", desc := "(Ljava/lang/String;)V" } : Jvm.MethodName)) ∈ lw_all := lw_g (lw_at lw_m7 154 rfl) rfl
theorem q1723 : (Jvm.Cond.privateMethod ({ cls := "FranchiseLedger$Reader", name := "setting", desc := "(Ljava/lang/String;)V" } : Jvm.MethodName)) ∈ lw_tbl := lw_at lw_m7 155 rfl
theorem q1724 : (Jvm.Cond.instanceMethod ({ cls := "FranchiseLedger$Reader", name := "setting", desc := "(Ljava/lang/String;)V" } : Jvm.MethodName)) ∈ lw_all := lw_g (lw_at lw_m7 156 rfl) rfl
theorem q1725 : (Jvm.Cond.code ({ cls := "FranchiseLedger$Reader", name := "setting", desc := "(Ljava/lang/String;)V" } : Jvm.MethodName) prog_11_method_20_code (4 : Nat) (Option.none : Option Jvm.ClassFile.FieldType)) ∈ lw_all := lw_g (lw_at lw_m7 157 rfl) rfl
theorem q1726 : (Jvm.Cond.methodLink "FranchiseLedger$Reader" (247 : Nat) ({ cls := "FranchiseLedger$Reader", name := "credit", desc := "()V" } : Jvm.MethodName)) ∈ lw_all := lw_g (lw_at lw_m7 158 rfl) rfl
theorem q1727 : (Jvm.Cond.privateMethod ({ cls := "FranchiseLedger$Reader", name := "credit", desc := "()V" } : Jvm.MethodName)) ∈ lw_tbl := lw_at lw_m7 159 rfl
theorem q1728 : (Jvm.Cond.instanceMethod ({ cls := "FranchiseLedger$Reader", name := "credit", desc := "()V" } : Jvm.MethodName)) ∈ lw_all := lw_g (lw_at lw_m7 160 rfl) rfl
theorem q1729 : (Jvm.Cond.code ({ cls := "FranchiseLedger$Reader", name := "credit", desc := "()V" } : Jvm.MethodName) prog_11_method_19_code (1 : Nat) (Option.none : Option Jvm.ClassFile.FieldType)) ∈ lw_all := lw_g (lw_at lw_m7 161 rfl) rfl
theorem q1730 : (Jvm.Cond.classLink "FranchiseLedger$Reader" (237 : Nat) "FranchiseLedger$Rate") ∈ lw_all := lw_g (lw_at lw_m7 162 rfl) rfl
theorem q1731 : (Jvm.Cond.methodLinkNest "FranchiseLedger$Reader" (239 : Nat) ({ cls := "FranchiseLedger$Rate", name := "<init>", desc := "(I)V" } : Jvm.MethodName) "FranchiseLedger") ∈ lw_tbl := lw_at lw_m7 163 rfl
theorem q3266 : (Jvm.Cond.castable "FranchiseLedger$Reader" "java/lang/Object") ∈ lw_tbl := lw_at lw_m14 18 rfl
theorem in_X7 : ∀ w ∈ wsX70, w ∈ lw_all := lw_in wsX70 [1386, 1388, 1390, 1392, 1394, 1396, 1398, 1400, 1402] (by decide +kernel) (by decide +kernel)
