/-! walks by program: by the generator -/
set_option maxRecDepth 100000
section
variable {p : Program} {l : Launch} {e : Env} {R : Room} {s : State} {m : MethodId} {args : Array Value} {below : List Frame} {meth : Method} {c : Code} {D : zD} {B0 : Nat} {E : zE}
theorem nw_X2 : ∀ j, j < 10 → defaultValue (tyX2 j) = vp_V [.null, .null, .null, .null, .null, .long 0, .long 0, .int 0, .int 0, .int 0] j := by
  intro j hj
  rcases (show j = 0 ∨ j = 1 ∨ j = 2 ∨ j = 3 ∨ j = 4 ∨ j = 5 ∨ j = 6 ∨ j = 7 ∨ j = 8 ∨ j = 9 by omega) with rfl | rfl | rfl | rfl | rfl | rfl | rfl | rfl | rfl | rfl <;> rfl
theorem cv_X1_29 : zCIN "FranchiseLedger" 29 yX2_init cX2_init 1 0 := ⟨_, q186, q187, q130, q188, rfl, ⟨by decide +kernel, by decide +kernel, by decide +kernel⟩⟩
theorem nw_J2 : ∀ j, j < 3 → defaultValue (tyJ2 j) = vp_V [.int 0, .null, .int 0] j := by
  intro j hj
  rcases (show j = 0 ∨ j = 1 ∨ j = 2 by omega) with rfl | rfl | rfl <;> rfl
theorem cv_X2_11 : zCI "FranchiseLedger$Rules" 11 yJ2_init cJ2_init 2 1 := ⟨q192, q193, q133, q194, rfl, ⟨by decide +kernel, by decide +kernel, by decide +kernel⟩⟩
theorem cv_J2_1 : zCI "java/util/ArrayList" 1 yJ1_init cJ1_init 1 0 := ⟨q195, q196, q132, q197, rfl, ⟨by decide +kernel, by decide +kernel, by decide +kernel⟩⟩
theorem cv_J1_1 : zCI "java/util/AbstractList" 1 yJ0_init cJ0_init 1 0 := ⟨q198, q199, q131, q200, rfl, ⟨by decide +kernel, by decide +kernel, by decide +kernel⟩⟩
theorem fl_J1_7_J2 : zFL "java/util/AbstractList" 7 15 0 := ⟨RJ2, TJ2, 3, "java/util/AbstractList", rfl, in_J2, by decide, Or.inl q526, Or.inl rfl⟩
theorem pl_J1_7_J2 : zPL "java/util/AbstractList" 7 15 0 .int false := ⟨RJ2, TJ2, 3, "java/util/AbstractList", tyJ2, rfl, in_J2, by decide, Or.inl q526, Or.inl rfl, tyJ2_ok, nmJ2, rfl, (fun h => by cases h), rfl⟩
theorem fl_J2_9_J2 : zFL "java/util/ArrayList" 9 15 1 := ⟨RJ2, TJ2, 3, "java/util/ArrayList", rfl, in_J2, by decide, Or.inl q524, Or.inl rfl⟩
theorem pl_J2_9_J2 : zPL "java/util/ArrayList" 9 15 1 (.array (.object "java/lang/Object")) false := ⟨RJ2, TJ2, 3, "java/util/ArrayList", tyJ2, rfl, in_J2, by decide, Or.inl q524, Or.inl rfl, tyJ2_ok, nmJ2, rfl, (fun h => by cases h), rfl⟩
theorem fl_X2_14_X2 : zFL "FranchiseLedger$Rules" 14 2 0 := ⟨RX2, TX2, 10, "FranchiseLedger$Rules", rfl, in_X2, by decide, Or.inl q551, Or.inl rfl⟩
theorem pl_X2_14_X2 : zPL "FranchiseLedger$Rules" 14 2 0 (.object "java/util/List") true := ⟨RX2, TX2, 10, "FranchiseLedger$Rules", tyX2, rfl, in_X2, by decide, Or.inl q551, Or.inl rfl, tyX2_ok, nmX2, rfl, (fun _ => rfl), rfl⟩
theorem fl_X2_20_X2 : zFL "FranchiseLedger$Rules" 20 2 1 := ⟨RX2, TX2, 10, "FranchiseLedger$Rules", rfl, in_X2, by decide, Or.inl q555, Or.inl rfl⟩
theorem pl_X2_20_X2 : zPL "FranchiseLedger$Rules" 20 2 1 (.object "java/util/List") true := ⟨RX2, TX2, 10, "FranchiseLedger$Rules", tyX2, rfl, in_X2, by decide, Or.inl q555, Or.inl rfl, tyX2_ok, nmX2, rfl, (fun _ => rfl), rfl⟩
theorem nw_X3 : ∀ j, j < 1 → defaultValue (tyX3 j) = vp_V [.int 0] j := by
  intro j hj
  rcases (show j = 0 by omega) with rfl
  rfl
theorem cv_X2_25 : zCIN "FranchiseLedger$Rules" 25 yX3_init cX3_init 2 1 := ⟨_, q540, q541, q151, q542, rfl, ⟨by decide +kernel, by decide +kernel, by decide +kernel⟩⟩
theorem cv_X3_1 : zCI "FranchiseLedger$Rate" 1 yJ17_init cJ17_init 1 0 := ⟨q543, q544, q150, q545, rfl, ⟨by decide +kernel, by decide +kernel, by decide +kernel⟩⟩
theorem fl_X3_7_X3 : zFL "FranchiseLedger$Rate" 7 3 0 := ⟨RX3, TX3, 1, "FranchiseLedger$Rate", rfl, in_X3, by decide, Or.inl q547, Or.inl rfl⟩
theorem pl_X3_7_X3 : zPL "FranchiseLedger$Rate" 7 3 0 .int true := ⟨RX3, TX3, 1, "FranchiseLedger$Rate", tyX3, rfl, in_X3, by decide, Or.inl q547, Or.inl rfl, tyX3_ok, nmX3, rfl, (fun _ => rfl), rfl⟩
theorem fl_X2_26_X2 : zFL "FranchiseLedger$Rules" 26 2 2 := ⟨RX2, TX2, 10, "FranchiseLedger$Rules", rfl, in_X2, by decide, Or.inl q557, Or.inl rfl⟩
theorem pl_X2_26_X2 : zPL "FranchiseLedger$Rules" 26 2 2 (.object "FranchiseLedger$Rate") false := ⟨RX2, TX2, 10, "FranchiseLedger$Rules", tyX2, rfl, in_X2, by decide, Or.inl q557, Or.inl rfl, tyX2_ok, nmX2, rfl, (fun h => by cases h), rfl⟩
theorem fl_X2_30_X2 : zFL "FranchiseLedger$Rules" 30 2 3 := ⟨RX2, TX2, 10, "FranchiseLedger$Rules", rfl, in_X2, by decide, Or.inl q560, Or.inl rfl⟩
theorem pl_X2_30_X2 : zPL "FranchiseLedger$Rules" 30 2 3 (.object "FranchiseLedger$Rate") false := ⟨RX2, TX2, 10, "FranchiseLedger$Rules", tyX2, rfl, in_X2, by decide, Or.inl q560, Or.inl rfl, tyX2_ok, nmX2, rfl, (fun h => by cases h), rfl⟩
theorem fl_X2_33_X2 : zFL "FranchiseLedger$Rules" 33 2 4 := ⟨RX2, TX2, 10, "FranchiseLedger$Rules", rfl, in_X2, by decide, Or.inl q564, Or.inl rfl⟩
theorem pl_X2_33_X2 : zPL "FranchiseLedger$Rules" 33 2 4 (.object "FranchiseLedger$Rate") false := ⟨RX2, TX2, 10, "FranchiseLedger$Rules", tyX2, rfl, in_X2, by decide, Or.inl q564, Or.inl rfl, tyX2_ok, nmX2, rfl, (fun h => by cases h), rfl⟩
theorem fl_X1_30_X1 : zFL "FranchiseLedger" 30 0 0 := ⟨RX1, TX1, 10, "FranchiseLedger", rfl, in_X1, by decide, Or.inl q688, Or.inl rfl⟩
theorem pl_X1_30_X1 : zPL "FranchiseLedger" 30 0 0 (.object "FranchiseLedger$Rules") false := ⟨RX1, TX1, 10, "FranchiseLedger", tyX1, rfl, in_X1, by decide, Or.inl q688, Or.inl rfl, tyX1_ok, nmX1, rfl, (fun h => by cases h), rfl⟩
theorem nw_X4 : ∀ j, j < 7 → defaultValue (tyX4 j) = vp_V [.null, .null, .null, .null, .null, .int 0, .null] j := by
  intro j hj
  rcases (show j = 0 ∨ j = 1 ∨ j = 2 ∨ j = 3 ∨ j = 4 ∨ j = 5 ∨ j = 6 by omega) with rfl | rfl | rfl | rfl | rfl | rfl | rfl <;> rfl
theorem cv_X1_36 : zCIN "FranchiseLedger" 36 yX4_init cX4_init 2 1 := ⟨_, q601, q602, q152, q603, rfl, ⟨by decide +kernel, by decide +kernel, by decide +kernel⟩⟩
theorem fl_X4_3_X4 : zFL "FranchiseLedger$Books" 3 4 6 := ⟨RX4, TX4, 7, "FranchiseLedger$Books", rfl, in_X4, by decide, Or.inl q645, Or.inl rfl⟩
theorem pl_X4_3_X4 : zPL "FranchiseLedger$Books" 3 4 6 (.object "FranchiseLedger") true := ⟨RX4, TX4, 7, "FranchiseLedger$Books", tyX4, rfl, in_X4, by decide, Or.inl q645, Or.inl rfl, tyX4_ok, nmX4, rfl, (fun _ => rfl), rfl⟩
theorem cv_X4_17 : zCI "FranchiseLedger$Books" 17 yJ2_init cJ2_init 2 1 := ⟨q606, q193, q133, q194, rfl, ⟨by decide +kernel, by decide +kernel, by decide +kernel⟩⟩
theorem fl_X4_20_X4 : zFL "FranchiseLedger$Books" 20 4 0 := ⟨RX4, TX4, 7, "FranchiseLedger$Books", rfl, in_X4, by decide, Or.inl q630, Or.inl rfl⟩
theorem pl_X4_20_X4 : zPL "FranchiseLedger$Books" 20 4 0 (.object "java/util/List") true := ⟨RX4, TX4, 7, "FranchiseLedger$Books", tyX4, rfl, in_X4, by decide, Or.inl q630, Or.inl rfl, tyX4_ok, nmX4, rfl, (fun _ => rfl), rfl⟩
theorem fl_X4_24_X4 : zFL "FranchiseLedger$Books" 24 4 1 := ⟨RX4, TX4, 7, "FranchiseLedger$Books", rfl, in_X4, by decide, Or.inl q633, Or.inl rfl⟩
theorem pl_X4_24_X4 : zPL "FranchiseLedger$Books" 24 4 1 (.object "java/util/List") true := ⟨RX4, TX4, 7, "FranchiseLedger$Books", tyX4, rfl, in_X4, by decide, Or.inl q633, Or.inl rfl, tyX4_ok, nmX4, rfl, (fun _ => rfl), rfl⟩
theorem nw_X5 : ∀ j, j < 3 → defaultValue (tyX5 j) = vp_V [.null, .null, .null] j := by
  intro j hj
  rcases (show j = 0 ∨ j = 1 ∨ j = 2 by omega) with rfl | rfl | rfl <;> rfl
theorem cv_X4_29 : zCI "FranchiseLedger$Books" 29 yX5_init cX5_init 2 0 := ⟨q609, q610, q153, q611, rfl, ⟨by decide +kernel, by decide +kernel, by decide +kernel⟩⟩
theorem fl_X5_9_X5 : zFL "FranchiseLedger$Grid" 9 5 0 := ⟨RX5, TX5, 3, "FranchiseLedger$Grid", rfl, in_X5, by decide, Or.inl q613, Or.inl rfl⟩
theorem pl_X5_9_X5 : zPL "FranchiseLedger$Grid" 9 5 0 (.array .byte) true := ⟨RX5, TX5, 3, "FranchiseLedger$Grid", tyX5, rfl, in_X5, by decide, Or.inl q613, Or.inl rfl, tyX5_ok, nmX5, rfl, (fun _ => rfl), rfl⟩
theorem fl_X5_15_X5 : zFL "FranchiseLedger$Grid" 15 5 1 := ⟨RX5, TX5, 3, "FranchiseLedger$Grid", rfl, in_X5, by decide, Or.inl q617, Or.inl rfl⟩
theorem pl_X5_15_X5 : zPL "FranchiseLedger$Grid" 15 5 1 (.array .int) true := ⟨RX5, TX5, 3, "FranchiseLedger$Grid", tyX5, rfl, in_X5, by decide, Or.inl q617, Or.inl rfl, tyX5_ok, nmX5, rfl, (fun _ => rfl), rfl⟩
theorem fl_X5_19_X5 : zFL "FranchiseLedger$Grid" 19 5 2 := ⟨RX5, TX5, 3, "FranchiseLedger$Grid", rfl, in_X5, by decide, Or.inl q618, Or.inl rfl⟩
theorem pl_X5_19_X5 : zPL "FranchiseLedger$Grid" 19 5 2 (.array .boolean) true := ⟨RX5, TX5, 3, "FranchiseLedger$Grid", tyX5, rfl, in_X5, by decide, Or.inl q618, Or.inl rfl, tyX5_ok, nmX5, rfl, (fun _ => rfl), rfl⟩
theorem fl_X4_30_X4 : zFL "FranchiseLedger$Books" 30 4 2 := ⟨RX4, TX4, 7, "FranchiseLedger$Books", rfl, in_X4, by decide, Or.inl q636, Or.inl rfl⟩
theorem pl_X4_30_X4 : zPL "FranchiseLedger$Books" 30 4 2 (.object "FranchiseLedger$Grid") true := ⟨RX4, TX4, 7, "FranchiseLedger$Books", tyX4, rfl, in_X4, by decide, Or.inl q636, Or.inl rfl, tyX4_ok, nmX4, rfl, (fun _ => rfl), rfl⟩
theorem fl_X4_36_X4 : zFL "FranchiseLedger$Books" 36 4 3 := ⟨RX4, TX4, 7, "FranchiseLedger$Books", rfl, in_X4, by decide, Or.inl q639, Or.inl rfl⟩
theorem pl_X4_36_X4 : zPL "FranchiseLedger$Books" 36 4 3 (.array (.array .long)) true := ⟨RX4, TX4, 7, "FranchiseLedger$Books", tyX4, rfl, in_X4, by decide, Or.inl q639, Or.inl rfl, tyX4_ok, nmX4, rfl, (fun _ => rfl), rfl⟩
theorem fl_X4_39_X4 : zFL "FranchiseLedger$Books" 39 4 4 := ⟨RX4, TX4, 7, "FranchiseLedger$Books", rfl, in_X4, by decide, Or.inl q641, Or.inl rfl⟩
theorem pl_X4_39_X4 : zPL "FranchiseLedger$Books" 39 4 4 (.array .long) true := ⟨RX4, TX4, 7, "FranchiseLedger$Books", tyX4, rfl, in_X4, by decide, Or.inl q641, Or.inl rfl, tyX4_ok, nmX4, rfl, (fun _ => rfl), rfl⟩
theorem fl_X1_39_X1 : zFL "FranchiseLedger" 39 0 1 := ⟨RX1, TX1, 10, "FranchiseLedger", rfl, in_X1, by decide, Or.inl q690, Or.inl rfl⟩
theorem pl_X1_39_X1 : zPL "FranchiseLedger" 39 0 1 (.object "FranchiseLedger$Books") false := ⟨RX1, TX1, 10, "FranchiseLedger", tyX1, rfl, in_X1, by decide, Or.inl q690, Or.inl rfl, tyX1_ok, nmX1, rfl, (fun h => by cases h), rfl⟩
theorem fl_X1_43_X1 : zFL "FranchiseLedger" 43 0 2 := ⟨RX1, TX1, 10, "FranchiseLedger", rfl, in_X1, by decide, Or.inl q691, Or.inl rfl⟩
theorem pl_X1_43_X1 : zPL "FranchiseLedger" 43 0 2 (.array (.object "FranchiseLedger$Books")) true := ⟨RX1, TX1, 10, "FranchiseLedger", tyX1, rfl, in_X1, by decide, Or.inl q691, Or.inl rfl, tyX1_ok, nmX1, rfl, (fun _ => rfl), rfl⟩
theorem fl_X1_47_X1 : zFL "FranchiseLedger" 47 0 3 := ⟨RX1, TX1, 10, "FranchiseLedger", rfl, in_X1, by decide, Or.inl q692, Or.inl rfl⟩
theorem pl_X1_47_X1 : zPL "FranchiseLedger" 47 0 3 (.array .byte) true := ⟨RX1, TX1, 10, "FranchiseLedger", tyX1, rfl, in_X1, by decide, Or.inl q692, Or.inl rfl, tyX1_ok, nmX1, rfl, (fun _ => rfl), rfl⟩
theorem nw_J19 : ∀ j, j < 4 → defaultValue (tyJ19 j) = vp_V [.int 0, .int 0, .null, .null] j := by
  intro j hj
  rcases (show j = 0 ∨ j = 1 ∨ j = 2 ∨ j = 3 by omega) with rfl | rfl | rfl | rfl <;> rfl
theorem cv_X1_53 : zCI "FranchiseLedger" 53 yJ19_init cJ19_init 1 0 := ⟨q665, q666, q155, q667, rfl, ⟨by decide +kernel, by decide +kernel, by decide +kernel⟩⟩
theorem cv_J19_1 : zCI "java/util/LinkedList" 1 yJ18_init cJ18_init 1 0 := ⟨q668, q669, q154, q670, rfl, ⟨by decide +kernel, by decide +kernel, by decide +kernel⟩⟩
theorem cv_J18_1 : zCI "java/util/AbstractSequentialList" 1 yJ1_init cJ1_init 1 0 := ⟨q671, q196, q132, q197, rfl, ⟨by decide +kernel, by decide +kernel, by decide +kernel⟩⟩
theorem fl_J1_7_J19 : zFL "java/util/AbstractList" 7 16 0 := ⟨RJ19, TJ19, 4, "java/util/AbstractList", rfl, in_J19, by decide, Or.inl q526, Or.inl rfl⟩
theorem pl_J1_7_J19 : zPL "java/util/AbstractList" 7 16 0 .int false := ⟨RJ19, TJ19, 4, "java/util/AbstractList", tyJ19, rfl, in_J19, by decide, Or.inl q526, Or.inl rfl, tyJ19_ok, nmJ19, rfl, (fun h => by cases h), rfl⟩
theorem fl_J19_7_J19 : zFL "java/util/LinkedList" 7 16 1 := ⟨RJ19, TJ19, 4, "java/util/LinkedList", rfl, in_J19, by decide, Or.inl q672, Or.inl rfl⟩
theorem pl_J19_7_J19 : zPL "java/util/LinkedList" 7 16 1 .int false := ⟨RJ19, TJ19, 4, "java/util/LinkedList", tyJ19, rfl, in_J19, by decide, Or.inl q672, Or.inl rfl, tyJ19_ok, nmJ19, rfl, (fun h => by cases h), rfl⟩
theorem fl_X1_54_X1 : zFL "FranchiseLedger" 54 0 4 := ⟨RX1, TX1, 10, "FranchiseLedger", rfl, in_X1, by decide, Or.inl q693, Or.inl rfl⟩
theorem pl_X1_54_X1 : zPL "FranchiseLedger" 54 0 4 (.object "java/util/LinkedList") true := ⟨RX1, TX1, 10, "FranchiseLedger", tyX1, rfl, in_X1, by decide, Or.inl q693, Or.inl rfl, tyX1_ok, nmX1, rfl, (fun _ => rfl), rfl⟩
theorem nw_J8 : ∀ j, j < 4 → defaultValue (tyJ8 j) = vp_V [.null, .int 0, .int 0, .int 0] j := by
  intro j hj
  rcases (show j = 0 ∨ j = 1 ∨ j = 2 ∨ j = 3 by omega) with rfl | rfl | rfl | rfl <;> rfl
theorem cv_X1_60 : zCI "FranchiseLedger" 60 yJ8_init_2 cJ8_init_2 2 1 := ⟨q684, q685, q139, q686, rfl, ⟨by decide +kernel, by decide +kernel, by decide +kernel⟩⟩
theorem cv_J8_1 : zCI "java/lang/StringBuilder" 1 yJ7_init cJ7_init 2 1 := ⟨q255, q256, q138, q257, rfl, ⟨by decide +kernel, by decide +kernel, by decide +kernel⟩⟩
theorem cv_J7_26 : zCS "java/lang/AbstractStringBuilder" 26 yJ10_newBytesFor cJ10_newBytesFor 1 (Option.some (Jvm.ClassFile.FieldType.array Jvm.ClassFile.FieldType.byte)) 1 := ⟨q261, q262, q141, q263, ⟨by decide +kernel, by decide +kernel, by decide +kernel⟩⟩
theorem cv_J10_11 : zCS "java/lang/StringUTF16" 11 yJ10_newBytesLength cJ10_newBytesLength 1 (Option.some Jvm.ClassFile.FieldType.int) 1 := ⟨q264, q265, q141, q266, ⟨by decide +kernel, by decide +kernel, by decide +kernel⟩⟩
theorem fl_J7_15_J8 : zFL "java/lang/AbstractStringBuilder" 15 18 0 := ⟨RJ8, TJ8, 4, "java/lang/AbstractStringBuilder", rfl, in_J8, by decide, Or.inl q268, Or.inl rfl⟩
theorem pl_J7_15_J8 : zPL "java/lang/AbstractStringBuilder" 15 18 0 (.array .byte) false := ⟨RJ8, TJ8, 4, "java/lang/AbstractStringBuilder", tyJ8, rfl, in_J8, by decide, Or.inl q268, Or.inl rfl, tyJ8_ok, nmJ8, rfl, (fun h => by cases h), rfl⟩
theorem fl_J7_22_J8 : zFL "java/lang/AbstractStringBuilder" 22 18 1 := ⟨RJ8, TJ8, 4, "java/lang/AbstractStringBuilder", rfl, in_J8, by decide, Or.inl q269, Or.inl rfl⟩
theorem pl_J7_22_J8 : zPL "java/lang/AbstractStringBuilder" 22 18 1 .byte false := ⟨RJ8, TJ8, 4, "java/lang/AbstractStringBuilder", tyJ8, rfl, in_J8, by decide, Or.inl q269, Or.inl rfl, tyJ8_ok, nmJ8, rfl, (fun h => by cases h), rfl⟩
theorem fl_X1_63_X1 : zFL "FranchiseLedger" 63 0 5 := ⟨RX1, TX1, 10, "FranchiseLedger", rfl, in_X1, by decide, Or.inl q694, Or.inl rfl⟩
theorem pl_X1_63_X1 : zPL "FranchiseLedger" 63 0 5 (.object "java/lang/StringBuilder") true := ⟨RX1, TX1, 10, "FranchiseLedger", tyX1, rfl, in_X1, by decide, Or.inl q694, Or.inl rfl, tyX1_ok, nmX1, rfl, (fun _ => rfl), rfl⟩
theorem fl_X1_67_X1 : zFL "FranchiseLedger" 67 0 6 := ⟨RX1, TX1, 10, "FranchiseLedger", rfl, in_X1, by decide, Or.inl q696, Or.inl rfl⟩
theorem pl_X1_67_X1 : zPL "FranchiseLedger" 67 0 6 (.array .byte) true := ⟨RX1, TX1, 10, "FranchiseLedger", tyX1, rfl, in_X1, by decide, Or.inl q696, Or.inl rfl, tyX1_ok, nmX1, rfl, (fun _ => rfl), rfl⟩
theorem fl_X1_70_X1 : zFL "FranchiseLedger" 70 0 9 := ⟨RX1, TX1, 10, "FranchiseLedger", rfl, in_X1, by decide, Or.inl q702, Or.inl rfl⟩
theorem pl_X1_70_X1 : zPL "FranchiseLedger" 70 0 9 .int false := ⟨RX1, TX1, 10, "FranchiseLedger", tyX1, rfl, in_X1, by decide, Or.inl q702, Or.inl rfl, tyX1_ok, nmX1, rfl, (fun h => by cases h), rfl⟩
theorem fl_X1_117_X2 : zFL "FranchiseLedger" 117 2 0 := ⟨RX2, TX2, 10, "FranchiseLedger$Rules", rfl, in_X2, by decide, Or.inr ⟨_, q554⟩, Or.inl rfl⟩
theorem cv_X1_78_J2 : zCF "FranchiseLedger" 78 "java/util/ArrayList" ⟨"java/util/List", "size", "()I"⟩ yJ2_size cJ2_size 1 (Option.some Jvm.ClassFile.FieldType.int) 0 := ⟨q729, q733, q735, q133, q737, by decide +kernel, ⟨by decide +kernel, by decide +kernel, by decide +kernel⟩⟩
theorem fl_J2_48_J2 : zFL "java/util/ArrayList" 48 15 2 := ⟨RJ2, TJ2, 3, "java/util/ArrayList", rfl, in_J2, by decide, Or.inl q525, Or.inl rfl⟩
theorem fl_X1_74_X4 : zFL "FranchiseLedger" 74 4 0 := ⟨RX4, TX4, 7, "FranchiseLedger$Books", rfl, in_X4, by decide, Or.inr ⟨_, q631⟩, Or.inl rfl⟩
theorem fl_X1_102_X4 : zFL "FranchiseLedger" 102 4 1 := ⟨RX4, TX4, 7, "FranchiseLedger$Books", rfl, in_X4, by decide, Or.inr ⟨_, q634⟩, Or.inl rfl⟩
theorem cv_X1_120_J19 : zCV "FranchiseLedger" 120 "java/util/LinkedList" yJ19_size cJ19_size 1 (Option.some Jvm.ClassFile.FieldType.int) 0 := ⟨q744, q741, q3245, q155, q743, rfl, ⟨by decide +kernel, by decide +kernel, by decide +kernel⟩⟩
theorem fl_X1_111_X4 : zFL "FranchiseLedger" 111 4 5 := ⟨RX4, TX4, 7, "FranchiseLedger$Books", rfl, in_X4, by decide, Or.inr ⟨_, q644⟩, Or.inl rfl⟩
theorem cv_X1_96_J2 : zCF "FranchiseLedger" 96 "java/util/ArrayList" ⟨"java/util/List", "get", "(I)Ljava/lang/Object;"⟩ yJ2_get cJ2_get 2 (Option.some (Jvm.ClassFile.FieldType.object "java/lang/Object")) 1 := ⟨q754, q757, q759, q133, q761, by decide +kernel, ⟨by decide +kernel, by decide +kernel, by decide +kernel⟩⟩
theorem cv_J2_118 : zCS "java/util/ArrayList" 118 yJ21_checkIndex cJ21_checkIndex 2 (Option.some Jvm.ClassFile.FieldType.int) 2 := ⟨q762, q763, q162, q764, ⟨by decide +kernel, by decide +kernel, by decide +kernel⟩⟩
theorem cv_J21_105 : zCS "java/util/Objects" 105 yJ14_checkIndex cJ14_checkIndex 3 (Option.some Jvm.ClassFile.FieldType.int) 3 := ⟨q765, q766, q146, q767, ⟨by decide +kernel, by decide +kernel, by decide +kernel⟩⟩
theorem cv_J2_123_J2 : zCV "java/util/ArrayList" 123 "java/util/ArrayList" yJ2_elementData cJ2_elementData 2 (Option.some (Jvm.ClassFile.FieldType.object "java/lang/Object")) 1 := ⟨q768, q769, q770, q133, q771, rfl, ⟨by decide +kernel, by decide +kernel, by decide +kernel⟩⟩
theorem cv_X1_286_X11 : zCV "FranchiseLedger" 286 "FranchiseLedger$Franchisee" yX11_salesOf cX11_salesOf 5 (Option.some Jvm.ClassFile.FieldType.long) 1 := ⟨q816, q817, q818, q167, q819, rfl, ⟨by decide +kernel, by decide +kernel, by decide +kernel⟩⟩
theorem fl_X11_24_X11 : zFL "FranchiseLedger$Franchisee" 24 10 2 := ⟨RX11, TX11, 11, "FranchiseLedger$Franchisee", rfl, in_X11, by decide, Or.inl q909, Or.inl rfl⟩
theorem fl_X1_153_X11 : zFL "FranchiseLedger" 153 10 8 := ⟨RX11, TX11, 11, "FranchiseLedger$Franchisee", rfl, in_X11, by decide, Or.inr ⟨_, q929⟩, Or.inl rfl⟩
theorem cv_X1_307 : zCS "FranchiseLedger" 307 yJ12_max_2 cJ12_max_2 4 (Option.some Jvm.ClassFile.FieldType.long) 2 := ⟨q824, q825, q143, q826, ⟨by decide +kernel, by decide +kernel, by decide +kernel⟩⟩
theorem cv_X1_327_X4 : zCV "FranchiseLedger" 327 "FranchiseLedger$Books" yX4_fund cX4_fund 1 (Option.some Jvm.ClassFile.FieldType.long) 0 := ⟨q831, q832, q833, q152, q834, rfl, ⟨by decide +kernel, by decide +kernel, by decide +kernel⟩⟩
theorem cv_X4_206_X4 : zCV "FranchiseLedger$Books" 206 "FranchiseLedger$Books" yX4_contributions cX4_contributions 4 (Option.some Jvm.ClassFile.FieldType.long) 0 := ⟨q835, q836, q837, q152, q838, rfl, ⟨by decide +kernel, by decide +kernel, by decide +kernel⟩⟩
theorem cv_X4_46_J2 : zCF "FranchiseLedger$Books" 46 "java/util/ArrayList" ⟨"java/util/List", "size", "()I"⟩ yJ2_size cJ2_size 1 (Option.some Jvm.ClassFile.FieldType.int) 0 := ⟨q840, q733, q735, q133, q737, by decide +kernel, ⟨by decide +kernel, by decide +kernel, by decide +kernel⟩⟩
theorem cv_X4_52_J2 : zCF "FranchiseLedger$Books" 52 "java/util/ArrayList" ⟨"java/util/List", "get", "(I)Ljava/lang/Object;"⟩ yJ2_get cJ2_get 2 (Option.some (Jvm.ClassFile.FieldType.object "java/lang/Object")) 1 := ⟨q842, q757, q759, q133, q761, by decide +kernel, ⟨by decide +kernel, by decide +kernel, by decide +kernel⟩⟩
theorem fl_X4_158_X11 : zFL "FranchiseLedger$Books" 158 10 9 := ⟨RX11, TX11, 11, "FranchiseLedger$Franchisee", rfl, in_X11, by decide, Or.inr ⟨_, q931⟩, Or.inl rfl⟩
theorem cv_X1_84 : zCS "FranchiseLedger" 84 yX1_inRange cX1_inRange 6 (Option.some Jvm.ClassFile.FieldType.boolean) 3 := ⟨q848, q849, q129, q850, ⟨by decide +kernel, by decide +kernel, by decide +kernel⟩⟩
theorem cv_X1_438_X4 : zCV "FranchiseLedger" 438 "FranchiseLedger$Books" yX4_copy cX4_copy 3 (Option.some (Jvm.ClassFile.FieldType.object "FranchiseLedger$Books")) 0 := ⟨q851, q852, q853, q152, q854, rfl, ⟨by decide +kernel, by decide +kernel, by decide +kernel⟩⟩
theorem cv_X4_43 : zCI "FranchiseLedger$Books" 43 yX4_init cX4_init 2 1 := ⟨q856, q602, q152, q603, rfl, ⟨by decide +kernel, by decide +kernel, by decide +kernel⟩⟩
theorem fl_X4_58_X4 : zFL "FranchiseLedger$Books" 58 4 5 := ⟨RX4, TX4, 7, "FranchiseLedger$Books", rfl, in_X4, by decide, Or.inl q643, Or.inl rfl⟩
theorem cv_X4_62_X11 : zCV "FranchiseLedger$Books" 62 "FranchiseLedger$Franchisee" yX11_copy cX11_copy 3 (Option.some (Jvm.ClassFile.FieldType.object "FranchiseLedger$Franchisee")) 1 := ⟨q857, q858, q859, q167, q860, rfl, ⟨by decide +kernel, by decide +kernel, by decide +kernel⟩⟩
theorem nw_X11 : ∀ j, j < 11 → defaultValue (tyX11 j) = vp_V [.null, .null, .null, .int 0, .int 0, .int 0, .int 0, .int 0, .long 0, .long 0, .long 0] j := by
  intro j hj
  rcases (show j = 0 ∨ j = 1 ∨ j = 2 ∨ j = 3 ∨ j = 4 ∨ j = 5 ∨ j = 6 ∨ j = 7 ∨ j = 8 ∨ j = 9 ∨ j = 10 by omega) with rfl | rfl | rfl | rfl | rfl | rfl | rfl | rfl | rfl | rfl | rfl <;> rfl
theorem fl_X11_31_X11 : zFL "FranchiseLedger$Franchisee" 31 10 3 := ⟨RX11, TX11, 11, "FranchiseLedger$Franchisee", rfl, in_X11, by decide, Or.inl q912, Or.inl rfl⟩
theorem fl_X11_34_X11 : zFL "FranchiseLedger$Franchisee" 34 10 4 := ⟨RX11, TX11, 11, "FranchiseLedger$Franchisee", rfl, in_X11, by decide, Or.inl q915, Or.inl rfl⟩
theorem cv_X11_37 : zCI "FranchiseLedger$Franchisee" 37 yX11_init cX11_init 3 2 := ⟨q863, q864, q167, q865, rfl, ⟨by decide +kernel, by decide +kernel, by decide +kernel⟩⟩
theorem nw_X12 : ∀ j, j < 7 → defaultValue (tyX12 j) = vp_V [.int 0, .int 0, .int 0, .int 0, .int 0, .int 0, .long 0] j := by
  intro j hj
  rcases (show j = 0 ∨ j = 1 ∨ j = 2 ∨ j = 3 ∨ j = 4 ∨ j = 5 ∨ j = 6 by omega) with rfl | rfl | rfl | rfl | rfl | rfl | rfl <;> rfl
theorem cv_X11_11 : zCIN "FranchiseLedger$Franchisee" 11 yX12_init cX12_init 1 0 := ⟨_, q869, q870, q168, q871, rfl, ⟨by decide +kernel, by decide +kernel, by decide +kernel⟩⟩
theorem fl_X12_9_X12 : zFL "FranchiseLedger$Transfer" 9 11 0 := ⟨RX12, TX12, 7, "FranchiseLedger$Transfer", rfl, in_X12, by decide, Or.inl q873, Or.inl rfl⟩
theorem pl_X12_9_X12 : zPL "FranchiseLedger$Transfer" 9 11 0 .int false := ⟨RX12, TX12, 7, "FranchiseLedger$Transfer", tyX12, rfl, in_X12, by decide, Or.inl q873, Or.inl rfl, tyX12_ok, nmX12, rfl, (fun h => by cases h), rfl⟩
theorem fl_X11_12_X11 : zFL "FranchiseLedger$Franchisee" 12 10 0 := ⟨RX11, TX11, 11, "FranchiseLedger$Franchisee", rfl, in_X11, by decide, Or.inl q903, Or.inl rfl⟩
theorem pl_X11_12_X11 : zPL "FranchiseLedger$Franchisee" 12 10 0 (.object "FranchiseLedger$Transfer") true := ⟨RX11, TX11, 11, "FranchiseLedger$Franchisee", tyX11, rfl, in_X11, by decide, Or.inl q903, Or.inl rfl, tyX11_ok, nmX11, rfl, (fun _ => rfl), rfl⟩
theorem fl_X11_20_X11 : zFL "FranchiseLedger$Franchisee" 20 10 1 := ⟨RX11, TX11, 11, "FranchiseLedger$Franchisee", rfl, in_X11, by decide, Or.inl q906, Or.inl rfl⟩
theorem pl_X11_20_X11 : zPL "FranchiseLedger$Franchisee" 20 10 1 (.array (.array .long)) true := ⟨RX11, TX11, 11, "FranchiseLedger$Franchisee", tyX11, rfl, in_X11, by decide, Or.inl q906, Or.inl rfl, tyX11_ok, nmX11, rfl, (fun _ => rfl), rfl⟩
theorem pl_X11_24_X11 : zPL "FranchiseLedger$Franchisee" 24 10 2 (.array .long) true := ⟨RX11, TX11, 11, "FranchiseLedger$Franchisee", tyX11, rfl, in_X11, by decide, Or.inl q909, Or.inl rfl, tyX11_ok, nmX11, rfl, (fun _ => rfl), rfl⟩
theorem fl_X11_27_X11 : zFL "FranchiseLedger$Franchisee" 27 10 5 := ⟨RX11, TX11, 11, "FranchiseLedger$Franchisee", rfl, in_X11, by decide, Or.inl q918, Or.inl rfl⟩
theorem pl_X11_27_X11 : zPL "FranchiseLedger$Franchisee" 27 10 5 .int false := ⟨RX11, TX11, 11, "FranchiseLedger$Franchisee", tyX11, rfl, in_X11, by decide, Or.inl q918, Or.inl rfl, tyX11_ok, nmX11, rfl, (fun h => by cases h), rfl⟩
theorem pl_X11_31_X11 : zPL "FranchiseLedger$Franchisee" 31 10 3 .int false := ⟨RX11, TX11, 11, "FranchiseLedger$Franchisee", tyX11, rfl, in_X11, by decide, Or.inl q912, Or.inl rfl, tyX11_ok, nmX11, rfl, (fun h => by cases h), rfl⟩
theorem pl_X11_34_X11 : zPL "FranchiseLedger$Franchisee" 34 10 4 .int false := ⟨RX11, TX11, 11, "FranchiseLedger$Franchisee", tyX11, rfl, in_X11, by decide, Or.inl q915, Or.inl rfl, tyX11_ok, nmX11, rfl, (fun h => by cases h), rfl⟩
theorem cv_X11_40_X12 : zCV "FranchiseLedger$Franchisee" 40 "FranchiseLedger$Transfer" yX12_like cX12_like 2 (Option.none : Option Jvm.ClassFile.FieldType) 1 := ⟨q958, q959, q960, q168, q961, rfl, ⟨by decide +kernel, by decide +kernel, by decide +kernel⟩⟩
theorem fl_X12_15_X12 : zFL "FranchiseLedger$Transfer" 15 11 1 := ⟨RX12, TX12, 7, "FranchiseLedger$Transfer", rfl, in_X12, by decide, Or.inl q876, Or.inl rfl⟩
theorem pl_X12_15_X12 : zPL "FranchiseLedger$Transfer" 15 11 1 .int false := ⟨RX12, TX12, 7, "FranchiseLedger$Transfer", tyX12, rfl, in_X12, by decide, Or.inl q876, Or.inl rfl, tyX12_ok, nmX12, rfl, (fun h => by cases h), rfl⟩
theorem fl_X12_18_X12 : zFL "FranchiseLedger$Transfer" 18 11 2 := ⟨RX12, TX12, 7, "FranchiseLedger$Transfer", rfl, in_X12, by decide, Or.inl q879, Or.inl rfl⟩
theorem pl_X12_18_X12 : zPL "FranchiseLedger$Transfer" 18 11 2 .int false := ⟨RX12, TX12, 7, "FranchiseLedger$Transfer", tyX12, rfl, in_X12, by decide, Or.inl q879, Or.inl rfl, tyX12_ok, nmX12, rfl, (fun h => by cases h), rfl⟩
theorem fl_X12_21_X12 : zFL "FranchiseLedger$Transfer" 21 11 3 := ⟨RX12, TX12, 7, "FranchiseLedger$Transfer", rfl, in_X12, by decide, Or.inl q881, Or.inl rfl⟩
theorem pl_X12_21_X12 : zPL "FranchiseLedger$Transfer" 21 11 3 .int false := ⟨RX12, TX12, 7, "FranchiseLedger$Transfer", tyX12, rfl, in_X12, by decide, Or.inl q881, Or.inl rfl, tyX12_ok, nmX12, rfl, (fun h => by cases h), rfl⟩
theorem fl_X12_24_X12 : zFL "FranchiseLedger$Transfer" 24 11 4 := ⟨RX12, TX12, 7, "FranchiseLedger$Transfer", rfl, in_X12, by decide, Or.inl q882, Or.inl rfl⟩
theorem pl_X12_24_X12 : zPL "FranchiseLedger$Transfer" 24 11 4 .int false := ⟨RX12, TX12, 7, "FranchiseLedger$Transfer", tyX12, rfl, in_X12, by decide, Or.inl q882, Or.inl rfl, tyX12_ok, nmX12, rfl, (fun h => by cases h), rfl⟩
theorem fl_X12_27_X12 : zFL "FranchiseLedger$Transfer" 27 11 5 := ⟨RX12, TX12, 7, "FranchiseLedger$Transfer", rfl, in_X12, by decide, Or.inl q883, Or.inl rfl⟩
theorem pl_X12_27_X12 : zPL "FranchiseLedger$Transfer" 27 11 5 .int false := ⟨RX12, TX12, 7, "FranchiseLedger$Transfer", tyX12, rfl, in_X12, by decide, Or.inl q883, Or.inl rfl, tyX12_ok, nmX12, rfl, (fun h => by cases h), rfl⟩
theorem fl_X12_30_X12 : zFL "FranchiseLedger$Transfer" 30 11 6 := ⟨RX12, TX12, 7, "FranchiseLedger$Transfer", rfl, in_X12, by decide, Or.inl q885, Or.inl rfl⟩
theorem pl_X12_30_X12 : zPL "FranchiseLedger$Transfer" 30 11 6 .long false := ⟨RX12, TX12, 7, "FranchiseLedger$Transfer", tyX12, rfl, in_X12, by decide, Or.inl q885, Or.inl rfl, tyX12_ok, nmX12, rfl, (fun h => by cases h), rfl⟩
theorem fl_X11_50_X11 : zFL "FranchiseLedger$Franchisee" 50 10 6 := ⟨RX11, TX11, 11, "FranchiseLedger$Franchisee", rfl, in_X11, by decide, Or.inl q921, Or.inl rfl⟩
theorem pl_X11_50_X11 : zPL "FranchiseLedger$Franchisee" 50 10 6 .int false := ⟨RX11, TX11, 11, "FranchiseLedger$Franchisee", tyX11, rfl, in_X11, by decide, Or.inl q921, Or.inl rfl, tyX11_ok, nmX11, rfl, (fun h => by cases h), rfl⟩
theorem fl_X11_53_X11 : zFL "FranchiseLedger$Franchisee" 53 10 7 := ⟨RX11, TX11, 11, "FranchiseLedger$Franchisee", rfl, in_X11, by decide, Or.inl q924, Or.inl rfl⟩
theorem pl_X11_53_X11 : zPL "FranchiseLedger$Franchisee" 53 10 7 .int false := ⟨RX11, TX11, 11, "FranchiseLedger$Franchisee", tyX11, rfl, in_X11, by decide, Or.inl q924, Or.inl rfl, tyX11_ok, nmX11, rfl, (fun h => by cases h), rfl⟩
theorem fl_X11_56_X11 : zFL "FranchiseLedger$Franchisee" 56 10 8 := ⟨RX11, TX11, 11, "FranchiseLedger$Franchisee", rfl, in_X11, by decide, Or.inl q927, Or.inl rfl⟩
theorem pl_X11_56_X11 : zPL "FranchiseLedger$Franchisee" 56 10 8 .long false := ⟨RX11, TX11, 11, "FranchiseLedger$Franchisee", tyX11, rfl, in_X11, by decide, Or.inl q927, Or.inl rfl, tyX11_ok, nmX11, rfl, (fun h => by cases h), rfl⟩
theorem fl_X11_60_X11 : zFL "FranchiseLedger$Franchisee" 60 10 9 := ⟨RX11, TX11, 11, "FranchiseLedger$Franchisee", rfl, in_X11, by decide, Or.inl q930, Or.inl rfl⟩
theorem pl_X11_60_X11 : zPL "FranchiseLedger$Franchisee" 60 10 9 .long false := ⟨RX11, TX11, 11, "FranchiseLedger$Franchisee", tyX11, rfl, in_X11, by decide, Or.inl q930, Or.inl rfl, tyX11_ok, nmX11, rfl, (fun h => by cases h), rfl⟩
theorem fl_X11_63_X11 : zFL "FranchiseLedger$Franchisee" 63 10 10 := ⟨RX11, TX11, 11, "FranchiseLedger$Franchisee", rfl, in_X11, by decide, Or.inl q933, Or.inl rfl⟩
theorem pl_X11_63_X11 : zPL "FranchiseLedger$Franchisee" 63 10 10 .long false := ⟨RX11, TX11, 11, "FranchiseLedger$Franchisee", tyX11, rfl, in_X11, by decide, Or.inl q933, Or.inl rfl, tyX11_ok, nmX11, rfl, (fun h => by cases h), rfl⟩
theorem cv_X4_66_J2 : zCF "FranchiseLedger$Books" 66 "java/util/ArrayList" ⟨"java/util/List", "add", "(Ljava/lang/Object;)Z"⟩ yJ2_add cJ2_add 2 (Option.some Jvm.ClassFile.FieldType.boolean) 1 := ⟨q964, q967, q969, q133, q971, by decide +kernel, ⟨by decide +kernel, by decide +kernel, by decide +kernel⟩⟩
theorem fl_J2_63_J2 : zFL "java/util/ArrayList" 63 15 0 := ⟨RJ2, TJ2, 3, "java/util/ArrayList", rfl, in_J2, by decide, Or.inl q529, Or.inr q530⟩
theorem pl_J2_63_J2 : zPL "java/util/ArrayList" 63 15 0 .int false := ⟨RJ2, TJ2, 3, "java/util/ArrayList", tyJ2, rfl, in_J2, by decide, Or.inl q529, Or.inr q530, tyJ2_ok, nmJ2, rfl, (fun h => by cases h), rfl⟩
theorem cv_J2_131_J2 : zCV "java/util/ArrayList" 131 "java/util/ArrayList" yJ2_add_2 cJ2_add_2 4 (Option.none : Option Jvm.ClassFile.FieldType) 3 := ⟨q972, q974, qs4, q133, q975, rfl, ⟨by decide +kernel, by decide +kernel, by decide +kernel⟩⟩
theorem cv_J2_129_J2 : zCV "java/util/ArrayList" 129 "java/util/ArrayList" yJ2_grow cJ2_grow 1 (Option.some (Jvm.ClassFile.FieldType.array (Jvm.ClassFile.FieldType.object "java/lang/Object"))) 0 := ⟨q976, q978, qs5, q133, q979, rfl, ⟨by decide +kernel, by decide +kernel, by decide +kernel⟩⟩
theorem cv_J2_69_J2 : zCV "java/util/ArrayList" 69 "java/util/ArrayList" yJ2_grow_2 cJ2_grow_2 4 (Option.some (Jvm.ClassFile.FieldType.array (Jvm.ClassFile.FieldType.object "java/lang/Object"))) 1 := ⟨q980, q982, qs6, q133, q983, rfl, ⟨by decide +kernel, by decide +kernel, by decide +kernel⟩⟩
theorem cv_J2_73 : zCS "java/util/ArrayList" 73 yJ11_newLength cJ11_newLength 4 (Option.some Jvm.ClassFile.FieldType.int) 3 := ⟨q986, q304, q142, q305, ⟨by decide +kernel, by decide +kernel, by decide +kernel⟩⟩
theorem cv_J11_194 : zCS "jdk/internal/util/ArraysSupport" 194 yJ12_max cJ12_max 2 (Option.some Jvm.ClassFile.FieldType.int) 2 := ⟨q306, q307, q143, q308, ⟨by decide +kernel, by decide +kernel, by decide +kernel⟩⟩
theorem cv_J11_201 : zCS "jdk/internal/util/ArraysSupport" 201 yJ11_hugeLength cJ11_hugeLength 3 (Option.some Jvm.ClassFile.FieldType.int) 2 := ⟨q310, q311, q142, q312, ⟨by decide +kernel, by decide +kernel, by decide +kernel⟩⟩
theorem cv_J2_66 : zCS "java/util/ArrayList" 66 yJ13_copyOf_2 cJ13_copyOf_2 2 (Option.some (Jvm.ClassFile.FieldType.array (Jvm.ClassFile.FieldType.object "java/lang/Object"))) 2 := ⟨q987, q988, q144, q989, ⟨by decide +kernel, by decide +kernel, by decide +kernel⟩⟩
theorem cv_J13_300 : zCS "java/util/Arrays" 300 yJ13_copyOf_3 cJ13_copyOf_3 4 (Option.some (Jvm.ClassFile.FieldType.array (Jvm.ClassFile.FieldType.object "java/lang/Object"))) 3 := ⟨q1021, q1022, q144, q1023, ⟨by decide +kernel, by decide +kernel, by decide +kernel⟩⟩
theorem cv_J13_304 : zCS "java/util/Arrays" 304 yJ12_min cJ12_min 2 (Option.some Jvm.ClassFile.FieldType.int) 2 := ⟨q324, q325, q143, q326, ⟨by decide +kernel, by decide +kernel, by decide +kernel⟩⟩
theorem pl_J2_48_J2 : zPL "java/util/ArrayList" 48 15 2 .int false := ⟨RJ2, TJ2, 3, "java/util/ArrayList", tyJ2, rfl, in_J2, by decide, Or.inl q525, Or.inl rfl, tyJ2_ok, nmJ2, rfl, (fun h => by cases h), rfl⟩
theorem cv_X4_85_X5 : zCV "FranchiseLedger$Books" 85 "FranchiseLedger$Grid" yX5_like cX5_like 2 (Option.none : Option Jvm.ClassFile.FieldType) 1 := ⟨q1077, q1078, q1079, q153, q1080, rfl, ⟨by decide +kernel, by decide +kernel, by decide +kernel⟩⟩
theorem nw_X14 : ∀ j, j < 3 → defaultValue (tyX14 j) = vp_V [.int 0, .int 0, .long 0] j := by
  intro j hj
  rcases (show j = 0 ∨ j = 1 ∨ j = 2 by omega) with rfl | rfl | rfl <;> rfl
theorem fl_X4_72_X14 : zFL "FranchiseLedger$Books" 72 13 0 := ⟨RX14, TX14, 3, "FranchiseLedger$Outlet", rfl, in_X14, by decide, Or.inr ⟨_, q1062⟩, Or.inl rfl⟩
theorem fl_X4_75_X14 : zFL "FranchiseLedger$Books" 75 13 1 := ⟨RX14, TX14, 3, "FranchiseLedger$Outlet", rfl, in_X14, by decide, Or.inr ⟨_, q1065⟩, Or.inl rfl⟩
theorem fl_X4_78_X14 : zFL "FranchiseLedger$Books" 78 13 2 := ⟨RX14, TX14, 3, "FranchiseLedger$Outlet", rfl, in_X14, by decide, Or.inr ⟨_, q1068⟩, Or.inl rfl⟩
theorem cv_X4_82 : zCI "FranchiseLedger$Books" 82 yX14_init cX14_init 5 3 := ⟨q1057, q1058, q170, q1059, rfl, ⟨by decide +kernel, by decide +kernel, by decide +kernel⟩⟩
theorem fl_X14_14_X14 : zFL "FranchiseLedger$Outlet" 14 13 0 := ⟨RX14, TX14, 3, "FranchiseLedger$Outlet", rfl, in_X14, by decide, Or.inl q1061, Or.inl rfl⟩
theorem pl_X14_14_X14 : zPL "FranchiseLedger$Outlet" 14 13 0 .int true := ⟨RX14, TX14, 3, "FranchiseLedger$Outlet", tyX14, rfl, in_X14, by decide, Or.inl q1061, Or.inl rfl, tyX14_ok, nmX14, rfl, (fun _ => rfl), rfl⟩
theorem fl_X14_18_X14 : zFL "FranchiseLedger$Outlet" 18 13 1 := ⟨RX14, TX14, 3, "FranchiseLedger$Outlet", rfl, in_X14, by decide, Or.inl q1064, Or.inl rfl⟩
theorem pl_X14_18_X14 : zPL "FranchiseLedger$Outlet" 18 13 1 .int false := ⟨RX14, TX14, 3, "FranchiseLedger$Outlet", tyX14, rfl, in_X14, by decide, Or.inl q1064, Or.inl rfl, tyX14_ok, nmX14, rfl, (fun h => by cases h), rfl⟩
theorem fl_X14_21_X14 : zFL "FranchiseLedger$Outlet" 21 13 2 := ⟨RX14, TX14, 3, "FranchiseLedger$Outlet", rfl, in_X14, by decide, Or.inl q1067, Or.inl rfl⟩
theorem pl_X14_21_X14 : zPL "FranchiseLedger$Outlet" 21 13 2 .long false := ⟨RX14, TX14, 3, "FranchiseLedger$Outlet", tyX14, rfl, in_X14, by decide, Or.inl q1067, Or.inl rfl, tyX14_ok, nmX14, rfl, (fun h => by cases h), rfl⟩
theorem pl_X4_58_X4 : zPL "FranchiseLedger$Books" 58 4 5 .int false := ⟨RX4, TX4, 7, "FranchiseLedger$Books", tyX4, rfl, in_X4, by decide, Or.inl q643, Or.inl rfl, tyX4_ok, nmX4, rfl, (fun h => by cases h), rfl⟩
theorem cv_X1_442_J8 : zCV "FranchiseLedger" 442 "java/lang/StringBuilder" yJ8_length cJ8_length 1 (Option.some Jvm.ClassFile.FieldType.int) 0 := ⟨q1091, q451, q3246, q139, q452, rfl, ⟨by decide +kernel, by decide +kernel, by decide +kernel⟩⟩
theorem cv_J8_343 : zCSU "java/lang/StringBuilder" 343 yJ7_length cJ7_length 1 (Option.some Jvm.ClassFile.FieldType.int) 0 := ⟨q453, q449, q281, q448, q138, q454, ⟨by decide +kernel, by decide +kernel⟩⟩
theorem fl_J7_79_J8 : zFL "java/lang/AbstractStringBuilder" 79 18 3 := ⟨RJ8, TJ8, 4, "java/lang/AbstractStringBuilder", rfl, in_J8, by decide, Or.inl q272, Or.inl rfl⟩
theorem cv_X1_483_J8 : zCV "FranchiseLedger" 483 "java/lang/StringBuilder" yJ8_charAt cJ8_charAt 2 (Option.some Jvm.ClassFile.FieldType.char) 1 := ⟨q1092, q1093, q1094, q139, q1095, rfl, ⟨by decide +kernel, by decide +kernel, by decide +kernel⟩⟩
theorem cv_J8_329 : zCSU "java/lang/StringBuilder" 329 yJ7_charAt cJ7_charAt 5 (Option.some Jvm.ClassFile.FieldType.char) 1 := ⟨q1096, q3247, q281, q1097, q138, q1098, ⟨by decide +kernel, by decide +kernel⟩⟩
theorem cv_J7_138 : zCS "java/lang/AbstractStringBuilder" 138 yJ12_min cJ12_min 2 (Option.some Jvm.ClassFile.FieldType.int) 2 := ⟨q1099, q325, q143, q326, ⟨by decide +kernel, by decide +kernel, by decide +kernel⟩⟩
theorem cv_J7_144 : zCS "java/lang/AbstractStringBuilder" 144 yJ9_checkIndex cJ9_checkIndex 2 (Option.none : Option Jvm.ClassFile.FieldType) 2 := ⟨q1100, q1101, q140, q1102, ⟨by decide +kernel, by decide +kernel, by decide +kernel⟩⟩
theorem cv_J9_1059 : zCS "java/lang/String" 1059 yJ14_checkIndex cJ14_checkIndex 3 (Option.some Jvm.ClassFile.FieldType.int) 3 := ⟨q1103, q766, q146, q767, ⟨by decide +kernel, by decide +kernel, by decide +kernel⟩⟩
theorem cv_J7_148 : zCS "java/lang/AbstractStringBuilder" 148 yJ10_getChar cJ10_getChar 2 (Option.some Jvm.ClassFile.FieldType.char) 2 := ⟨q1104, q504, q141, q505, ⟨by decide +kernel, by decide +kernel, by decide +kernel⟩⟩
theorem cv_X1_490_X1 : zCV "FranchiseLedger" 490 "FranchiseLedger" yX1_append cX1_append 7 (Option.some Jvm.ClassFile.FieldType.int) 1 := ⟨q1109, q1111, qs7, q129, q1112, rfl, ⟨by decide +kernel, by decide +kernel, by decide +kernel⟩⟩
theorem fl_X1_487_X1 : zFL "FranchiseLedger" 487 0 7 := ⟨RX1, TX1, 10, "FranchiseLedger", rfl, in_X1, by decide, Or.inl q698, Or.inl rfl⟩
theorem pl_X1_487_X1 : zPL "FranchiseLedger" 487 0 7 .int false := ⟨RX1, TX1, 10, "FranchiseLedger", tyX1, rfl, in_X1, by decide, Or.inl q698, Or.inl rfl, tyX1_ok, nmX1, rfl, (fun h => by cases h), rfl⟩
theorem cv_X1_493_X2 : zCV "FranchiseLedger" 493 "FranchiseLedger$Rules" yX2_named cX2_named 3 (Option.some Jvm.ClassFile.FieldType.int) 1 := ⟨q1138, q1139, q1140, q130, q1141, rfl, ⟨by decide +kernel, by decide +kernel, by decide +kernel⟩⟩
theorem cv_X2_36_J2 : zCF "FranchiseLedger$Rules" 36 "java/util/ArrayList" ⟨"java/util/List", "size", "()I"⟩ yJ2_size cJ2_size 1 (Option.some Jvm.ClassFile.FieldType.int) 0 := ⟨q1143, q733, q735, q133, q737, by decide +kernel, ⟨by decide +kernel, by decide +kernel, by decide +kernel⟩⟩
theorem cv_X2_42_J2 : zCF "FranchiseLedger$Rules" 42 "java/util/ArrayList" ⟨"java/util/List", "get", "(I)Ljava/lang/Object;"⟩ yJ2_get cJ2_get 2 (Option.some (Jvm.ClassFile.FieldType.object "java/lang/Object")) 1 := ⟨q1145, q757, q759, q133, q761, by decide +kernel, ⟨by decide +kernel, by decide +kernel, by decide +kernel⟩⟩
theorem cv_X2_48_J9 : zCVX "FranchiseLedger$Rules" 48 "java/lang/String" yJ9_contentEquals cJ9_contentEquals 5 (Option.some Jvm.ClassFile.FieldType.boolean) [((18 : Nat), (28 : Nat), (29 : Nat), (0 : Nat)), ((29 : Nat), (32 : Nat), (29 : Nat), (0 : Nat))] 1 := ⟨q1147, q1148, q1149, q140, q1150, rfl, ⟨by decide +kernel, by decide +kernel, by decide +kernel⟩⟩
theorem cv_J9_567_J9 : zCV "java/lang/String" 567 "java/lang/String" yJ9_nonSyncContentEquals cJ9_nonSyncContentEquals 6 (Option.some Jvm.ClassFile.FieldType.boolean) 1 := ⟨q1153, q1155, qs8, q140, q1156, rfl, ⟨by decide +kernel, by decide +kernel, by decide +kernel⟩⟩
theorem cv_J9_505_J9 : zCV "java/lang/String" 505 "java/lang/String" yJ9_length cJ9_length 1 (Option.some Jvm.ClassFile.FieldType.int) 0 := ⟨q1157, q362, q363, q140, q364, rfl, ⟨by decide +kernel, by decide +kernel, by decide +kernel⟩⟩
theorem fl_J9_9_J9 : zFL "java/lang/String" 9 19 0 := ⟨RJ9, TJ9, 4, "java/lang/String", rfl, in_J9, by decide, Or.inl q510, Or.inl rfl⟩
theorem cv_J9_335_J9 : zCV "java/lang/String" 335 "java/lang/String" yJ9_coder cJ9_coder 1 (Option.some Jvm.ClassFile.FieldType.byte) 0 := ⟨q365, q366, q367, q140, q368, rfl, ⟨by decide +kernel, by decide +kernel, by decide +kernel⟩⟩
theorem fl_J9_15_J9 : zFL "java/lang/String" 15 19 1 := ⟨RJ9, TJ9, 4, "java/lang/String", rfl, in_J9, by decide, Or.inl q511, Or.inl rfl⟩
theorem cv_J9_549_J8 : zCO "java/lang/String" 549 "java/lang/StringBuilder" "java/lang/AbstractStringBuilder" ⟨"java/lang/AbstractStringBuilder", "length", "()I"⟩ yJ8_length cJ8_length 1 (Option.some Jvm.ClassFile.FieldType.int) 0 := ⟨q447, q449, Or.inl q450, q451, q139, q452, Or.inl ⟨_, _, _, q448, q454⟩, ⟨by decide +kernel, by decide +kernel, by decide +kernel⟩⟩
theorem cv_J9_552_J8 : zCU "java/lang/String" 552 "java/lang/StringBuilder" "java/lang/AbstractStringBuilder" ⟨"java/lang/AbstractStringBuilder", "getValue", "()[B"⟩ yJ7_getValue cJ7_getValue 1 (Option.some (Jvm.ClassFile.FieldType.array Jvm.ClassFile.FieldType.byte)) 0 := ⟨q442, q444, q445, q443, q138, q446, rfl, ⟨by decide +kernel, by decide +kernel, by decide +kernel⟩⟩
theorem cv_J9_555_J8 : zCU "java/lang/String" 555 "java/lang/StringBuilder" "java/lang/AbstractStringBuilder" ⟨"java/lang/AbstractStringBuilder", "getCoder", "()B"⟩ yJ7_getCoder cJ7_getCoder 1 (Option.some Jvm.ClassFile.FieldType.byte) 0 := ⟨q1158, q1160, q1161, q1159, q138, q1162, rfl, ⟨by decide +kernel, by decide +kernel, by decide +kernel⟩⟩
theorem cv_J9_564 : zCS "java/lang/String" 564 yJ10_contentEquals cJ10_contentEquals 4 (Option.some Jvm.ClassFile.FieldType.boolean) 3 := ⟨q1267, q1268, q141, q1269, ⟨by decide +kernel, by decide +kernel, by decide +kernel⟩⟩
theorem cv_J10_173 : zCS "java/lang/StringUTF16" 173 yJ10_checkBoundsOffCount cJ10_checkBoundsOffCount 3 (Option.none : Option Jvm.ClassFile.FieldType) 3 := ⟨q389, q390, q141, q391, ⟨by decide +kernel, by decide +kernel, by decide +kernel⟩⟩
theorem cv_J10_48 : zCS "java/lang/StringUTF16" 48 yJ10_length cJ10_length 1 (Option.some Jvm.ClassFile.FieldType.int) 1 := ⟨q341, q342, q141, q343, ⟨by decide +kernel, by decide +kernel, by decide +kernel⟩⟩
theorem cv_J10_419 : zCS "java/lang/StringUTF16" 419 yJ9_checkBoundsOffCount cJ9_checkBoundsOffCount 3 (Option.some Jvm.ClassFile.FieldType.int) 3 := ⟨q392, q393, q140, q394, ⟨by decide +kernel, by decide +kernel, by decide +kernel⟩⟩
theorem cv_J9_1065 : zCS "java/lang/String" 1065 yJ14_checkFromIndexSize cJ14_checkFromIndexSize 4 (Option.some Jvm.ClassFile.FieldType.int) 4 := ⟨q395, q396, q146, q397, ⟨by decide +kernel, by decide +kernel, by decide +kernel⟩⟩
theorem cv_J10_71 : zCS "java/lang/StringUTF16" 71 yJ10_getChar cJ10_getChar 2 (Option.some Jvm.ClassFile.FieldType.char) 2 := ⟨q503, q504, q141, q505, ⟨by decide +kernel, by decide +kernel, by decide +kernel⟩⟩
theorem cv_J9_558 : zCS "java/lang/String" 558 yJ11_mismatch cJ11_mismatch 4 (Option.some Jvm.ClassFile.FieldType.int) 3 := ⟨q1163, q1164, q142, q1165, ⟨by decide +kernel, by decide +kernel, by decide +kernel⟩⟩
theorem cv_J11_122 : zCS "jdk/internal/util/ArraysSupport" 122 yJ11_vectorizedMismatch cJ11_vectorizedMismatch 19 (Option.some Jvm.ClassFile.FieldType.int) 6 := ⟨q1170, q1171, q142, q1172, ⟨by decide +kernel, by decide +kernel, by decide +kernel⟩⟩
theorem cv_J11_54_J23 : zCV "jdk/internal/util/ArraysSupport" 54 "jdk/internal/misc/Unsafe" yJ23_getIntUnaligned cJ23_getIntUnaligned 4 (Option.some Jvm.ClassFile.FieldType.int) 2 := ⟨q1248, q1249, q1250, q164, q1251, rfl, ⟨by decide +kernel, by decide +kernel, by decide +kernel⟩⟩
theorem cv_J11_11 : zCS "jdk/internal/util/ArraysSupport" 11 yJ16_numberOfTrailingZeros cJ16_numberOfTrailingZeros 2 (Option.some Jvm.ClassFile.FieldType.int) 1 := ⟨q1266, q1244, q149, q1245, ⟨by decide +kernel, by decide +kernel, by decide +kernel⟩⟩
theorem cv_J11_58 : zCS "jdk/internal/util/ArraysSupport" 58 yJ16_numberOfLeadingZeros cJ16_numberOfLeadingZeros 2 (Option.some Jvm.ClassFile.FieldType.int) 1 := ⟨q1265, q1235, q149, q1236, ⟨by decide +kernel, by decide +kernel, by decide +kernel⟩⟩
theorem cv_J11_30_J23 : zCV "jdk/internal/util/ArraysSupport" 30 "jdk/internal/misc/Unsafe" yJ23_getLongUnaligned cJ23_getLongUnaligned 4 (Option.some Jvm.ClassFile.FieldType.long) 2 := ⟨q1177, q1178, q1179, q164, q1180, rfl, ⟨by decide +kernel, by decide +kernel, by decide +kernel⟩⟩
theorem cv_J11_49 : zCS "jdk/internal/util/ArraysSupport" 49 yJ24_numberOfTrailingZeros cJ24_numberOfTrailingZeros 3 (Option.some Jvm.ClassFile.FieldType.int) 1 := ⟨q1240, q1241, q166, q1242, ⟨by decide +kernel, by decide +kernel, by decide +kernel⟩⟩
theorem cv_J24_311 : zCS "java/lang/Long" 311 yJ16_numberOfTrailingZeros cJ16_numberOfTrailingZeros 2 (Option.some Jvm.ClassFile.FieldType.int) 1 := ⟨q1243, q1244, q149, q1245, ⟨by decide +kernel, by decide +kernel, by decide +kernel⟩⟩
theorem cv_J11_40 : zCS "jdk/internal/util/ArraysSupport" 40 yJ24_numberOfLeadingZeros cJ24_numberOfLeadingZeros 3 (Option.some Jvm.ClassFile.FieldType.int) 1 := ⟨q1231, q1232, q166, q1233, ⟨by decide +kernel, by decide +kernel, by decide +kernel⟩⟩
theorem cv_J24_308 : zCS "java/lang/Long" 308 yJ16_numberOfLeadingZeros cJ16_numberOfLeadingZeros 2 (Option.some Jvm.ClassFile.FieldType.int) 1 := ⟨q1234, q1235, q149, q1236, ⟨by decide +kernel, by decide +kernel, by decide +kernel⟩⟩
theorem cv_X1_445_J8 : zCV "FranchiseLedger" 445 "java/lang/StringBuilder" yJ8_append_3 cJ8_append_3 2 (Option.some (Jvm.ClassFile.FieldType.object "java/lang/StringBuilder")) 1 := ⟨q1121, q1122, q1123, q139, q1124, rfl, ⟨by decide +kernel, by decide +kernel, by decide +kernel⟩⟩
theorem cv_J8_50 : zCSU "java/lang/StringBuilder" 50 yJ7_append_3 cJ7_append_3 2 (Option.some (Jvm.ClassFile.FieldType.object "java/lang/AbstractStringBuilder")) 1 := ⟨q1125, q3248, q281, q1126, q138, q1127, ⟨by decide +kernel, by decide +kernel⟩⟩
theorem cv_J7_100_J8 : zCO "java/lang/AbstractStringBuilder" 100 "java/lang/StringBuilder" "java/lang/AbstractStringBuilder" ⟨"java/lang/AbstractStringBuilder", "ensureCapacityInternal", "(I)V"⟩ yJ7_ensureCapacityInternal cJ7_ensureCapacityInternal 3 (Option.none : Option Jvm.ClassFile.FieldType) 1 := ⟨q295, q3239, Or.inr ⟨rfl, by decide +kernel⟩, q297, q138, q298, Or.inl ⟨_, _, _, q297, q298⟩, ⟨by decide +kernel, by decide +kernel, by decide +kernel⟩⟩
theorem cv_J7_104_J8 : zCO "java/lang/AbstractStringBuilder" 104 "java/lang/StringBuilder" "java/lang/AbstractStringBuilder" ⟨"java/lang/AbstractStringBuilder", "newCapacity", "(I)I"⟩ yJ7_newCapacity cJ7_newCapacity 6 (Option.some Jvm.ClassFile.FieldType.int) 1 := ⟨q299, q3240, Or.inr ⟨rfl, by decide +kernel⟩, q301, q138, q302, Or.inl ⟨_, _, _, q301, q302⟩, ⟨by decide +kernel, by decide +kernel, by decide +kernel⟩⟩
theorem cv_J7_114 : zCS "java/lang/AbstractStringBuilder" 114 yJ11_newLength cJ11_newLength 4 (Option.some Jvm.ClassFile.FieldType.int) 3 := ⟨q303, q304, q142, q305, ⟨by decide +kernel, by decide +kernel, by decide +kernel⟩⟩
theorem cv_J7_108 : zCS "java/lang/AbstractStringBuilder" 108 yJ13_copyOf cJ13_copyOf 3 (Option.some (Jvm.ClassFile.FieldType.array Jvm.ClassFile.FieldType.byte)) 2 := ⟨q314, q315, q144, q316, ⟨by decide +kernel, by decide +kernel, by decide +kernel⟩⟩
theorem cv_J7_83_J8 : zCU "java/lang/AbstractStringBuilder" 83 "java/lang/StringBuilder" "java/lang/AbstractStringBuilder" ⟨"java/lang/AbstractStringBuilder", "isLatin1", "()Z"⟩ yJ7_isLatin1 cJ7_isLatin1 1 (Option.some Jvm.ClassFile.FieldType.boolean) 0 := ⟨q330, q332, q333, q331, q138, q334, rfl, ⟨by decide +kernel, by decide +kernel, by decide +kernel⟩⟩
theorem cv_J7_191 : zCS "java/lang/AbstractStringBuilder" 191 yJ15_canEncode cJ15_canEncode 1 (Option.some Jvm.ClassFile.FieldType.boolean) 1 := ⟨q1128, q1129, q147, q1130, ⟨by decide +kernel, by decide +kernel, by decide +kernel⟩⟩
theorem pl_J7_79_J8 : zPL "java/lang/AbstractStringBuilder" 79 18 3 .int false := ⟨RJ8, TJ8, 4, "java/lang/AbstractStringBuilder", tyJ8, rfl, in_J8, by decide, Or.inl q272, Or.inl rfl, tyJ8_ok, nmJ8, rfl, (fun h => by cases h), rfl⟩
theorem cv_J7_197 : zCS "java/lang/AbstractStringBuilder" 197 yJ10_putCharSB cJ10_putCharSB 3 (Option.none : Option Jvm.ClassFile.FieldType) 3 := ⟨q1131, q1132, q141, q1133, ⟨by decide +kernel, by decide +kernel, by decide +kernel⟩⟩
theorem cv_J10_67 : zCS "java/lang/StringUTF16" 67 yJ10_checkIndex cJ10_checkIndex 2 (Option.none : Option Jvm.ClassFile.FieldType) 2 := ⟨q1134, q1135, q141, q1136, ⟨by decide +kernel, by decide +kernel, by decide +kernel⟩⟩
theorem cv_J10_414 : zCS "java/lang/StringUTF16" 414 yJ9_checkIndex cJ9_checkIndex 2 (Option.none : Option Jvm.ClassFile.FieldType) 2 := ⟨q1137, q1101, q140, q1102, ⟨by decide +kernel, by decide +kernel, by decide +kernel⟩⟩
theorem cv_J10_111 : zCS "java/lang/StringUTF16" 111 yJ10_putChar cJ10_putChar 3 (Option.none : Option Jvm.ClassFile.FieldType) 3 := ⟨q352, q353, q141, q354, ⟨by decide +kernel, by decide +kernel, by decide +kernel⟩⟩
theorem cv_X1_510 : zCI "FranchiseLedger" 510 yJ2_init cJ2_init 2 1 := ⟨q1330, q193, q133, q194, rfl, ⟨by decide +kernel, by decide +kernel, by decide +kernel⟩⟩
theorem nw_X7 : ∀ j, j < 9 → defaultValue (tyX7 j) = vp_V [.int 0, .null, .null, .int 0, .int 0, .int 0, .int 0, .null, .null] j := by
  intro j hj
  rcases (show j = 0 ∨ j = 1 ∨ j = 2 ∨ j = 3 ∨ j = 4 ∨ j = 5 ∨ j = 6 ∨ j = 7 ∨ j = 8 by omega) with rfl | rfl | rfl | rfl | rfl | rfl | rfl | rfl | rfl <;> rfl
theorem cv_X1_513 : zCI "FranchiseLedger" 513 yX7_init cX7_init 2 1 := ⟨q1333, q1334, q157, q1335, rfl, ⟨by decide +kernel, by decide +kernel, by decide +kernel⟩⟩
theorem fl_X7_3_X7 : zFL "FranchiseLedger$Reader" 3 6 8 := ⟨RX7, TX7, 9, "FranchiseLedger$Reader", rfl, in_X7, by decide, Or.inl q1385, Or.inl rfl⟩
theorem pl_X7_3_X7 : zPL "FranchiseLedger$Reader" 3 6 8 (.object "FranchiseLedger") true := ⟨RX7, TX7, 9, "FranchiseLedger$Reader", tyX7, rfl, in_X7, by decide, Or.inl q1385, Or.inl rfl, tyX7_ok, nmX7, rfl, (fun _ => rfl), rfl⟩
theorem cv_X7_17 : zCIN "FranchiseLedger$Reader" 17 yX2_init cX2_init 1 0 := ⟨_, q1338, q187, q130, q188, rfl, ⟨by decide +kernel, by decide +kernel, by decide +kernel⟩⟩
theorem fl_X7_18_X7 : zFL "FranchiseLedger$Reader" 18 6 1 := ⟨RX7, TX7, 9, "FranchiseLedger$Reader", rfl, in_X7, by decide, Or.inl q1376, Or.inl rfl⟩
theorem pl_X7_18_X7 : zPL "FranchiseLedger$Reader" 18 6 1 (.object "FranchiseLedger$Rules") true := ⟨RX7, TX7, 9, "FranchiseLedger$Reader", tyX7, rfl, in_X7, by decide, Or.inl q1376, Or.inl rfl, tyX7_ok, nmX7, rfl, (fun _ => rfl), rfl⟩
theorem cv_X7_24 : zCIN "FranchiseLedger$Reader" 24 yX4_init cX4_init 2 1 := ⟨_, q1340, q602, q152, q603, rfl, ⟨by decide +kernel, by decide +kernel, by decide +kernel⟩⟩
theorem fl_X7_27_X7 : zFL "FranchiseLedger$Reader" 27 6 2 := ⟨RX7, TX7, 9, "FranchiseLedger$Reader", rfl, in_X7, by decide, Or.inl q1378, Or.inl rfl⟩
theorem pl_X7_27_X7 : zPL "FranchiseLedger$Reader" 27 6 2 (.object "FranchiseLedger$Books") true := ⟨RX7, TX7, 9, "FranchiseLedger$Reader", tyX7, rfl, in_X7, by decide, Or.inl q1378, Or.inl rfl, tyX7_ok, nmX7, rfl, (fun _ => rfl), rfl⟩
theorem fl_X7_33_X7 : zFL "FranchiseLedger$Reader" 33 6 7 := ⟨RX7, TX7, 9, "FranchiseLedger$Reader", rfl, in_X7, by decide, Or.inl q1384, Or.inl rfl⟩
theorem pl_X7_33_X7 : zPL "FranchiseLedger$Reader" 33 6 7 (.object "java/lang/String") false := ⟨RX7, TX7, 9, "FranchiseLedger$Reader", tyX7, rfl, in_X7, by decide, Or.inl q1384, Or.inl rfl, tyX7_ok, nmX7, rfl, (fun h => by cases h), rfl⟩
theorem fl_X7_37_X1 : zFL "FranchiseLedger$Reader" 37 0 7 := ⟨RX1, TX1, 10, "FranchiseLedger", rfl, in_X1, by decide, Or.inr ⟨_, q697⟩, Or.inl rfl⟩
theorem fl_X7_41_X7 : zFL "FranchiseLedger$Reader" 41 6 0 := ⟨RX7, TX7, 9, "FranchiseLedger$Reader", rfl, in_X7, by decide, Or.inl q1375, Or.inl rfl⟩
theorem pl_X7_41_X7 : zPL "FranchiseLedger$Reader" 41 6 0 .int true := ⟨RX7, TX7, 9, "FranchiseLedger$Reader", tyX7, rfl, in_X7, by decide, Or.inl q1375, Or.inl rfl, tyX7_ok, nmX7, rfl, (fun _ => rfl), rfl⟩
theorem pl_X7_37_X1 : zPL "FranchiseLedger$Reader" 37 0 7 .int false := ⟨RX1, TX1, 10, "FranchiseLedger", tyX1, rfl, in_X1, by decide, Or.inr ⟨rfl, _, q697⟩, Or.inl rfl, tyX1_ok, nmX1, rfl, (fun h => by cases h), rfl⟩
theorem fl_X7_44_X1 : zFL "FranchiseLedger$Reader" 44 0 8 := ⟨RX1, TX1, 10, "FranchiseLedger", rfl, in_X1, by decide, Or.inr ⟨_, q699⟩, Or.inl rfl⟩
theorem pl_X7_44_X1 : zPL "FranchiseLedger$Reader" 44 0 8 .int false := ⟨RX1, TX1, 10, "FranchiseLedger", tyX1, rfl, in_X1, by decide, Or.inr ⟨rfl, _, q699⟩, Or.inl rfl, tyX1_ok, nmX1, rfl, (fun h => by cases h), rfl⟩
theorem fl_X7_47_X1 : zFL "FranchiseLedger$Reader" 47 0 9 := ⟨RX1, TX1, 10, "FranchiseLedger", rfl, in_X1, by decide, Or.inr ⟨_, q701⟩, Or.inl rfl⟩
theorem pl_X7_47_X1 : zPL "FranchiseLedger$Reader" 47 0 9 .int false := ⟨RX1, TX1, 10, "FranchiseLedger", tyX1, rfl, in_X1, by decide, Or.inr ⟨rfl, _, q701⟩, Or.inl rfl, tyX1_ok, nmX1, rfl, (fun h => by cases h), rfl⟩
theorem cv_X7_50_X7 : zCV "FranchiseLedger$Reader" 50 "FranchiseLedger$Reader" yX7_scan cX7_scan 1 (Option.none : Option Jvm.ClassFile.FieldType) 0 := ⟨q1342, q1344, qs9, q157, q1345, rfl, ⟨by decide +kernel, by decide +kernel, by decide +kernel⟩⟩
theorem cv_X7_60_X7 : zCV "FranchiseLedger$Reader" 60 "FranchiseLedger$Reader" yX7_peek cX7_peek 1 (Option.some Jvm.ClassFile.FieldType.int) 0 := ⟨q1346, q1348, qs10, q157, q1349, rfl, ⟨by decide +kernel, by decide +kernel, by decide +kernel⟩⟩
theorem fl_X7_53_X7 : zFL "FranchiseLedger$Reader" 53 6 3 := ⟨RX7, TX7, 9, "FranchiseLedger$Reader", rfl, in_X7, by decide, Or.inl q1380, Or.inl rfl⟩
theorem fl_X7_56_X1 : zFL "FranchiseLedger$Reader" 56 0 6 := ⟨RX1, TX1, 10, "FranchiseLedger", rfl, in_X1, by decide, Or.inr ⟨_, q695⟩, Or.inl rfl⟩
theorem fl_X7_76_X7 : zFL "FranchiseLedger$Reader" 76 6 4 := ⟨RX7, TX7, 9, "FranchiseLedger$Reader", rfl, in_X7, by decide, Or.inl q1381, Or.inl rfl⟩
theorem pl_X7_76_X7 : zPL "FranchiseLedger$Reader" 76 6 4 .int false := ⟨RX7, TX7, 9, "FranchiseLedger$Reader", tyX7, rfl, in_X7, by decide, Or.inl q1381, Or.inl rfl, tyX7_ok, nmX7, rfl, (fun h => by cases h), rfl⟩
theorem cv_X7_82_X7 : zCV "FranchiseLedger$Reader" 82 "FranchiseLedger$Reader" yX7_isLetter cX7_isLetter 1 (Option.some Jvm.ClassFile.FieldType.boolean) 0 := ⟨q1350, q1352, qs11, q157, q1353, rfl, ⟨by decide +kernel, by decide +kernel, by decide +kernel⟩⟩
theorem cv_X7_68 : zCSN "FranchiseLedger$Reader" 68 yX1_inRange cX1_inRange 6 (Option.some Jvm.ClassFile.FieldType.boolean) 3 := ⟨_, q1356, q849, q129, q850, ⟨by decide +kernel, by decide +kernel, by decide +kernel⟩⟩
theorem cv_X7_89_X7 : zCV "FranchiseLedger$Reader" 89 "FranchiseLedger$Reader" yX7_isDigit cX7_isDigit 1 (Option.some Jvm.ClassFile.FieldType.boolean) 0 := ⟨q1365, q1367, qs13, q157, q1368, rfl, ⟨by decide +kernel, by decide +kernel, by decide +kernel⟩⟩
theorem cv_X7_92_X7 : zCV "FranchiseLedger$Reader" 92 "FranchiseLedger$Reader" yX7_scanNumber cX7_scanNumber 1 (Option.none : Option Jvm.ClassFile.FieldType) 0 := ⟨q1371, q1373, qs14, q157, q1374, rfl, ⟨by decide +kernel, by decide +kernel, by decide +kernel⟩⟩
theorem fl_X7_108_X7 : zFL "FranchiseLedger$Reader" 108 6 6 := ⟨RX7, TX7, 9, "FranchiseLedger$Reader", rfl, in_X7, by decide, Or.inl q1383, Or.inl rfl⟩
theorem pl_X7_108_X7 : zPL "FranchiseLedger$Reader" 108 6 6 .int false := ⟨RX7, TX7, 9, "FranchiseLedger$Reader", tyX7, rfl, in_X7, by decide, Or.inl q1383, Or.inl rfl, tyX7_ok, nmX7, rfl, (fun h => by cases h), rfl⟩
theorem fl_X7_79_X7 : zFL "FranchiseLedger$Reader" 79 6 5 := ⟨RX7, TX7, 9, "FranchiseLedger$Reader", rfl, in_X7, by decide, Or.inl q1382, Or.inl rfl⟩
theorem pl_X7_79_X7 : zPL "FranchiseLedger$Reader" 79 6 5 .int false := ⟨RX7, TX7, 9, "FranchiseLedger$Reader", tyX7, rfl, in_X7, by decide, Or.inl q1382, Or.inl rfl, tyX7_ok, nmX7, rfl, (fun h => by cases h), rfl⟩
theorem pl_X7_53_X7 : zPL "FranchiseLedger$Reader" 53 6 3 .int false := ⟨RX7, TX7, 9, "FranchiseLedger$Reader", tyX7, rfl, in_X7, by decide, Or.inl q1380, Or.inl rfl, tyX7_ok, nmX7, rfl, (fun h => by cases h), rfl⟩
theorem cv_X7_86_X7 : zCV "FranchiseLedger$Reader" 86 "FranchiseLedger$Reader" yX7_scanWord cX7_scanWord 2 (Option.none : Option Jvm.ClassFile.FieldType) 0 := ⟨q1357, q1359, qs12, q157, q1360, rfl, ⟨by decide +kernel, by decide +kernel, by decide +kernel⟩⟩
theorem cv_X7_97 : zCI "FranchiseLedger$Reader" 97 yJ8_init_2 cJ8_init_2 2 1 := ⟨q1362, q685, q139, q686, rfl, ⟨by decide +kernel, by decide +kernel, by decide +kernel⟩⟩
theorem cv_X7_104_J8 : zCV "FranchiseLedger$Reader" 104 "java/lang/StringBuilder" yJ8_toString cJ8_toString 1 (Option.some (Jvm.ClassFile.FieldType.object "java/lang/String")) 0 := ⟨q1364, q430, q431, q139, q432, rfl, ⟨by decide +kernel, by decide +kernel, by decide +kernel⟩⟩
theorem nw_J9 : ∀ j, j < 4 → defaultValue (tyJ9 j) = vp_V [.null, .int 0, .int 0, .int 0] j := by
  intro j hj
  rcases (show j = 0 ∨ j = 1 ∨ j = 2 ∨ j = 3 by omega) with rfl | rfl | rfl | rfl <;> rfl
theorem cv_J8_137 : zCI "java/lang/StringBuilder" 137 yJ9_init cJ9_init 2 1 := ⟨q435, q436, q140, q437, rfl, ⟨by decide +kernel, by decide +kernel, by decide +kernel⟩⟩
theorem cv_J9_489 : zCI "java/lang/String" 489 yJ9_init_2 cJ9_init_2 5 2 := ⟨q438, q439, q140, q440, rfl, ⟨by decide +kernel, by decide +kernel, by decide +kernel⟩⟩
theorem cv_J9_1047_J8 : zCU "java/lang/String" 1047 "java/lang/StringBuilder" "java/lang/AbstractStringBuilder" ⟨"java/lang/AbstractStringBuilder", "isLatin1", "()Z"⟩ yJ7_isLatin1 cJ7_isLatin1 1 (Option.some Jvm.ClassFile.FieldType.boolean) 0 := ⟨q455, q332, q333, q331, q138, q334, rfl, ⟨by decide +kernel, by decide +kernel, by decide +kernel⟩⟩
theorem fl_J9_1048_J8 : zFL "java/lang/String" 1048 18 2 := ⟨RJ8, TJ8, 4, "java/lang/AbstractStringBuilder", rfl, in_J8, by decide, Or.inl q271, Or.inl rfl⟩
theorem cv_J9_1051 : zCS "java/lang/String" 1051 yJ10_compress cJ10_compress 6 (Option.some (Jvm.ClassFile.FieldType.array Jvm.ClassFile.FieldType.byte)) 3 := ⟨q497, q498, q141, q499, ⟨by decide +kernel, by decide +kernel, by decide +kernel⟩⟩
theorem cv_J10_123 : zCS "java/lang/StringUTF16" 123 yJ10_compress_2 cJ10_compress_2 7 (Option.some Jvm.ClassFile.FieldType.int) 5 := ⟨q500, q501, q141, q502, ⟨by decide +kernel, by decide +kernel, by decide +kernel⟩⟩
theorem cv_J10_126 : zCS "java/lang/StringUTF16" 126 yJ13_copyOfRange cJ13_copyOfRange 3 (Option.some (Jvm.ClassFile.FieldType.array Jvm.ClassFile.FieldType.byte)) 3 := ⟨q506, q457, q144, q458, ⟨by decide +kernel, by decide +kernel, by decide +kernel⟩⟩
theorem cv_J13_339 : zCS "java/util/Arrays" 339 yJ13_copyOfRangeByte cJ13_copyOfRangeByte 5 (Option.some (Jvm.ClassFile.FieldType.array Jvm.ClassFile.FieldType.byte)) 3 := ⟨q459, q460, q144, q461, ⟨by decide +kernel, by decide +kernel, by decide +kernel⟩⟩
theorem cv_J13_343 : zCS "java/util/Arrays" 343 yJ13_checkLength cJ13_checkLength 2 (Option.none : Option Jvm.ClassFile.FieldType) 2 := ⟨q462, q463, q144, q464, ⟨by decide +kernel, by decide +kernel, by decide +kernel⟩⟩
theorem pl_J9_9_J9 : zPL "java/lang/String" 9 19 0 (.array .byte) true := ⟨RJ9, TJ9, 4, "java/lang/String", tyJ9, rfl, in_J9, by decide, Or.inl q510, Or.inl rfl, tyJ9_ok, nmJ9, rfl, (fun _ => rfl), rfl⟩
theorem cv_J9_47 : zCS "java/lang/String" 47 yJ10_coderFromArrayLen cJ10_coderFromArrayLen 2 (Option.some Jvm.ClassFile.FieldType.byte) 2 := ⟨q507, q508, q141, q509, ⟨by decide +kernel, by decide +kernel, by decide +kernel⟩⟩
theorem pl_J9_15_J9 : zPL "java/lang/String" 15 19 1 .byte true := ⟨RJ9, TJ9, 4, "java/lang/String", tyJ9, rfl, in_J9, by decide, Or.inl q511, Or.inl rfl, tyJ9_ok, nmJ9, rfl, (fun _ => rfl), rfl⟩
theorem cv_J9_54 : zCS "java/lang/String" 54 yJ13_copyOfRange cJ13_copyOfRange 3 (Option.some (Jvm.ClassFile.FieldType.array Jvm.ClassFile.FieldType.byte)) 3 := ⟨q456, q457, q144, q458, ⟨by decide +kernel, by decide +kernel, by decide +kernel⟩⟩
theorem cv_X7_100_J8 : zCV "FranchiseLedger$Reader" 100 "java/lang/StringBuilder" yJ8_append_3 cJ8_append_3 2 (Option.some (Jvm.ClassFile.FieldType.object "java/lang/StringBuilder")) 1 := ⟨q1363, q1122, q1123, q139, q1124, rfl, ⟨by decide +kernel, by decide +kernel, by decide +kernel⟩⟩
theorem cv_X1_514_X7 : zCV "FranchiseLedger" 514 "FranchiseLedger$Reader" yX7_readJournal cX7_readJournal 3 (Option.none : Option Jvm.ClassFile.FieldType) 1 := ⟨q1405, q1406, q1407, q157, q1408, rfl, ⟨by decide +kernel, by decide +kernel, by decide +kernel⟩⟩
theorem cv_X7_322_X7 : zCV "FranchiseLedger$Reader" 322 "FranchiseLedger$Reader" yX7_kindHere cX7_kindHere 3 (Option.some Jvm.ClassFile.FieldType.int) 0 := ⟨q1409, q1411, qs15, q157, q1412, rfl, ⟨by decide +kernel, by decide +kernel, by decide +kernel⟩⟩
theorem cv_X7_116_X7 : zCV "FranchiseLedger$Reader" 116 "FranchiseLedger$Reader" yX7_require cX7_require 3 (Option.none : Option Jvm.ClassFile.FieldType) 2 := ⟨q1413, q1415, qs16, q157, q1416, rfl, ⟨by decide +kernel, by decide +kernel, by decide +kernel⟩⟩
theorem nw_X8 : ∀ j, j < 8 → defaultValue (tyX8 j) = vp_V [.null, .null, .null, .null, .null, .int 0, .int 0, .int 0] j := by
  intro j hj
  rcases (show j = 0 ∨ j = 1 ∨ j = 2 ∨ j = 3 ∨ j = 4 ∨ j = 5 ∨ j = 6 ∨ j = 7 by omega) with rfl | rfl | rfl | rfl | rfl | rfl | rfl | rfl <;> rfl
theorem cv_X7_113 : zCI "FranchiseLedger$Reader" 113 yX8_init cX8_init 3 2 := ⟨q1426, q1427, q158, q1428, rfl, ⟨by decide +kernel, by decide +kernel, by decide +kernel⟩⟩
theorem cv_X8_1 : zCI "FranchiseLedger$TextError" 1 yJ4_init_2 cJ4_init_2 5 4 := ⟨q1429, q1430, q135, q1431, rfl, ⟨by decide +kernel, by decide +kernel, by decide +kernel⟩⟩
theorem cv_J4_16 : zCI "java/lang/Exception" 16 yJ3_init_3 cJ3_init_3 5 4 := ⟨q1432, q1433, q134, q1434, rfl, ⟨by decide +kernel, by decide +kernel, by decide +kernel⟩⟩
theorem fl_J3_7_X8 : zFL "java/lang/Throwable" 7 7 0 := ⟨RX8, TX8, 8, "java/lang/Throwable", rfl, in_X8, by decide, Or.inl q486, Or.inl rfl⟩
theorem pl_J3_7_X8 : zPL "java/lang/Throwable" 7 7 0 (.object "java/lang/Throwable") false := ⟨RX8, TX8, 8, "java/lang/Throwable", tyX8, rfl, in_X8, by decide, Or.inl q486, Or.inl rfl, tyX8_ok, nmX8, rfl, (fun h => by cases h), rfl⟩
theorem fl_J3_17_X8 : zFL "java/lang/Throwable" 17 7 1 := ⟨RX8, TX8, 8, "java/lang/Throwable", rfl, in_X8, by decide, Or.inl q487, Or.inl rfl⟩
theorem pl_J3_17_X8 : zPL "java/lang/Throwable" 17 7 1 (.array (.object "java/lang/StackTraceElement")) false := ⟨RX8, TX8, 8, "java/lang/Throwable", tyX8, rfl, in_X8, by decide, Or.inl q487, Or.inl rfl, tyX8_ok, nmX8, rfl, (fun h => by cases h), rfl⟩
theorem fl_J3_24_X8 : zFL "java/lang/Throwable" 24 7 2 := ⟨RX8, TX8, 8, "java/lang/Throwable", rfl, in_X8, by decide, Or.inl q488, Or.inl rfl⟩
theorem pl_J3_24_X8 : zPL "java/lang/Throwable" 24 7 2 (.object "java/util/List") false := ⟨RX8, TX8, 8, "java/lang/Throwable", tyX8, rfl, in_X8, by decide, Or.inl q488, Or.inl rfl, tyX8_ok, nmX8, rfl, (fun h => by cases h), rfl⟩
theorem fl_J3_31_X8 : zFL "java/lang/Throwable" 31 7 3 := ⟨RX8, TX8, 8, "java/lang/Throwable", rfl, in_X8, by decide, Or.inl q485, Or.inl rfl⟩
theorem pl_J3_31_X8 : zPL "java/lang/Throwable" 31 7 3 (.object "java/lang/String") false := ⟨RX8, TX8, 8, "java/lang/Throwable", tyX8, rfl, in_X8, by decide, Or.inl q485, Or.inl rfl, tyX8_ok, nmX8, rfl, (fun h => by cases h), rfl⟩
theorem fl_X8_7_X8 : zFL "FranchiseLedger$TextError" 7 7 6 := ⟨RX8, TX8, 8, "FranchiseLedger$TextError", rfl, in_X8, by decide, Or.inl q1435, Or.inl rfl⟩
theorem pl_X8_7_X8 : zPL "FranchiseLedger$TextError" 7 7 6 .int true := ⟨RX8, TX8, 8, "FranchiseLedger$TextError", tyX8, rfl, in_X8, by decide, Or.inl q1435, Or.inl rfl, tyX8_ok, nmX8, rfl, (fun _ => rfl), rfl⟩
theorem fl_X8_13_X8 : zFL "FranchiseLedger$TextError" 13 7 7 := ⟨RX8, TX8, 8, "FranchiseLedger$TextError", rfl, in_X8, by decide, Or.inl q1437, Or.inl rfl⟩
theorem pl_X8_13_X8 : zPL "FranchiseLedger$TextError" 13 7 7 .int true := ⟨RX8, TX8, 8, "FranchiseLedger$TextError", tyX8, rfl, in_X8, by decide, Or.inl q1437, Or.inl rfl, tyX8_ok, nmX8, rfl, (fun _ => rfl), rfl⟩
theorem cv_X7_124_J9 : zCV "FranchiseLedger$Reader" 124 "java/lang/String" yJ9_hashCode cJ9_hashCode 2 (Option.some Jvm.ClassFile.FieldType.int) 0 := ⟨q1445, q1446, q1447, q140, q1448, rfl, ⟨by decide +kernel, by decide +kernel, by decide +kernel⟩⟩
theorem fl_J9_19_J9 : zFL "java/lang/String" 19 19 2 := ⟨RJ9, TJ9, 4, "java/lang/String", rfl, in_J9, by decide, Or.inl q512, Or.inl rfl⟩
theorem fl_J9_23_J9 : zFL "java/lang/String" 23 19 3 := ⟨RJ9, TJ9, 4, "java/lang/String", rfl, in_J9, by decide, Or.inl q513, Or.inl rfl⟩
theorem cv_J9_492_J9 : zCV "java/lang/String" 492 "java/lang/String" yJ9_isLatin1 cJ9_isLatin1 1 (Option.some Jvm.ClassFile.FieldType.boolean) 0 := ⟨q1290, q1291, q1292, q140, q1293, rfl, ⟨by decide +kernel, by decide +kernel, by decide +kernel⟩⟩
theorem cv_J9_632 : zCS "java/lang/String" 632 yJ10_hashCode cJ10_hashCode 1 (Option.some Jvm.ClassFile.FieldType.int) 1 := ⟨q1498, q1499, q141, q1500, ⟨by decide +kernel, by decide +kernel, by decide +kernel⟩⟩
theorem cv_J10_220 : zCS "java/lang/StringUTF16" 220 yJ11_vectorizedHashCode cJ11_vectorizedHashCode 5 (Option.some Jvm.ClassFile.FieldType.int) 5 := ⟨q1501, q1453, q142, q1454, ⟨by decide +kernel, by decide +kernel, by decide +kernel⟩⟩
theorem cv_J11_62 : zCS "jdk/internal/util/ArraysSupport" 62 yJ11_signedHashCode cJ11_signedHashCode 6 (Option.some Jvm.ClassFile.FieldType.int) 4 := ⟨q1456, q1457, q142, q1458, ⟨by decide +kernel, by decide +kernel, by decide +kernel⟩⟩
theorem cv_J11_75 : zCS "jdk/internal/util/ArraysSupport" 75 yJ11_hashCode_2 cJ11_hashCode_2 6 (Option.some Jvm.ClassFile.FieldType.int) 4 := ⟨q1479, q1480, q142, q1481, ⟨by decide +kernel, by decide +kernel, by decide +kernel⟩⟩
theorem cv_J9_628 : zCS "java/lang/String" 628 yJ15_hashCode cJ15_hashCode 1 (Option.some Jvm.ClassFile.FieldType.int) 1 := ⟨q1449, q1450, q147, q1451, ⟨by decide +kernel, by decide +kernel, by decide +kernel⟩⟩
theorem cv_J15_84 : zCS "java/lang/StringLatin1" 84 yJ11_vectorizedHashCode cJ11_vectorizedHashCode 5 (Option.some Jvm.ClassFile.FieldType.int) 5 := ⟨q1452, q1453, q142, q1454, ⟨by decide +kernel, by decide +kernel, by decide +kernel⟩⟩
theorem pl_J9_19_J9 : zPL "java/lang/String" 19 19 2 .int false := ⟨RJ9, TJ9, 4, "java/lang/String", tyJ9, rfl, in_J9, by decide, Or.inl q512, Or.inl rfl, tyJ9_ok, nmJ9, rfl, (fun h => by cases h), rfl⟩
theorem pl_J9_23_J9 : zPL "java/lang/String" 23 19 3 .boolean false := ⟨RJ9, TJ9, 4, "java/lang/String", tyJ9, rfl, in_J9, by decide, Or.inl q513, Or.inl rfl, tyJ9_ok, nmJ9, rfl, (fun h => by cases h), rfl⟩
theorem cv_X7_131_J9 : zCV "FranchiseLedger$Reader" 131 "java/lang/String" yJ9_equals cJ9_equals 3 (Option.some Jvm.ClassFile.FieldType.boolean) 1 := ⟨q1503, q1272, q1273, q140, q1274, rfl, ⟨by decide +kernel, by decide +kernel, by decide +kernel⟩⟩
theorem cv_J9_541 : zCS "java/lang/String" 541 yJ15_equals cJ15_equals 3 (Option.some Jvm.ClassFile.FieldType.boolean) 2 := ⟨q1275, q1276, q147, q1277, ⟨by decide +kernel, by decide +kernel, by decide +kernel⟩⟩
theorem cv_X7_157_J2 : zCF "FranchiseLedger$Reader" 157 "java/util/ArrayList" ⟨"java/util/List", "size", "()I"⟩ yJ2_size cJ2_size 1 (Option.some Jvm.ClassFile.FieldType.int) 0 := ⟨q1511, q733, q735, q133, q737, by decide +kernel, ⟨by decide +kernel, by decide +kernel, by decide +kernel⟩⟩
theorem cv_X7_325_X7 : zCV "FranchiseLedger$Reader" 325 "FranchiseLedger$Reader" yX7_posting cX7_posting 2 (Option.some (Jvm.ClassFile.FieldType.object "FranchiseLedger$Posting")) 1 := ⟨q1512, q1514, qs17, q157, q1515, rfl, ⟨by decide +kernel, by decide +kernel, by decide +kernel⟩⟩
theorem cv_X7_310_X7 : zCV "FranchiseLedger$Reader" 310 "FranchiseLedger$Reader" yX7_sales cX7_sales 2 (Option.some (Jvm.ClassFile.FieldType.object "FranchiseLedger$Posting")) 0 := ⟨q1516, q1518, qs18, q157, q1519, rfl, ⟨by decide +kernel, by decide +kernel, by decide +kernel⟩⟩
theorem cv_X7_164_X7 : zCV "FranchiseLedger$Reader" 164 "FranchiseLedger$Reader" yX7_number cX7_number 4 (Option.some Jvm.ClassFile.FieldType.int) 2 := ⟨q1520, q1522, qs19, q157, q1523, rfl, ⟨by decide +kernel, by decide +kernel, by decide +kernel⟩⟩
theorem cv_X7_120_X7 : zCV "FranchiseLedger$Reader" 120 "FranchiseLedger$Reader" yX7_figure cX7_figure 3 (Option.some Jvm.ClassFile.FieldType.int) 2 := ⟨q1524, q1526, qs20, q157, q1527, rfl, ⟨by decide +kernel, by decide +kernel, by decide +kernel⟩⟩
theorem nw_X15 : ∀ j, j < 5 → defaultValue (tyX15 j) = vp_V [.int 0, .int 0, .int 0, .int 0, .long 0] j := by
  intro j hj
  rcases (show j = 0 ∨ j = 1 ∨ j = 2 ∨ j = 3 ∨ j = 4 by omega) with rfl | rfl | rfl | rfl | rfl <;> rfl
theorem cv_X7_281_X7 : zCV "FranchiseLedger$Reader" 281 "FranchiseLedger$Reader" yX7_dollars cX7_dollars 3 (Option.some Jvm.ClassFile.FieldType.long) 2 := ⟨q1531, q1533, qs21, q157, q1534, rfl, ⟨by decide +kernel, by decide +kernel, by decide +kernel⟩⟩
theorem cv_X7_285 : zCIN "FranchiseLedger$Reader" 285 yX15_init cX15_init 7 5 := ⟨_, q1536, q1537, q171, q1538, rfl, ⟨by decide +kernel, by decide +kernel, by decide +kernel⟩⟩
theorem cv_X15_1 : zCI "FranchiseLedger$Posting" 1 yJ17_init cJ17_init 1 0 := ⟨q1539, q544, q150, q545, rfl, ⟨by decide +kernel, by decide +kernel, by decide +kernel⟩⟩
theorem fl_X15_7_X15 : zFL "FranchiseLedger$Posting" 7 14 0 := ⟨RX15, TX15, 5, "FranchiseLedger$Posting", rfl, in_X15, by decide, Or.inl q1540, Or.inl rfl⟩
theorem pl_X15_7_X15 : zPL "FranchiseLedger$Posting" 7 14 0 .int true := ⟨RX15, TX15, 5, "FranchiseLedger$Posting", tyX15, rfl, in_X15, by decide, Or.inl q1540, Or.inl rfl, tyX15_ok, nmX15, rfl, (fun _ => rfl), rfl⟩
theorem fl_X15_13_X15 : zFL "FranchiseLedger$Posting" 13 14 1 := ⟨RX15, TX15, 5, "FranchiseLedger$Posting", rfl, in_X15, by decide, Or.inl q1541, Or.inl rfl⟩
theorem pl_X15_13_X15 : zPL "FranchiseLedger$Posting" 13 14 1 .int true := ⟨RX15, TX15, 5, "FranchiseLedger$Posting", tyX15, rfl, in_X15, by decide, Or.inl q1541, Or.inl rfl, tyX15_ok, nmX15, rfl, (fun _ => rfl), rfl⟩
theorem fl_X15_16_X15 : zFL "FranchiseLedger$Posting" 16 14 2 := ⟨RX15, TX15, 5, "FranchiseLedger$Posting", rfl, in_X15, by decide, Or.inl q1542, Or.inl rfl⟩
theorem pl_X15_16_X15 : zPL "FranchiseLedger$Posting" 16 14 2 .int true := ⟨RX15, TX15, 5, "FranchiseLedger$Posting", tyX15, rfl, in_X15, by decide, Or.inl q1542, Or.inl rfl, tyX15_ok, nmX15, rfl, (fun _ => rfl), rfl⟩
theorem fl_X15_19_X15 : zFL "FranchiseLedger$Posting" 19 14 3 := ⟨RX15, TX15, 5, "FranchiseLedger$Posting", rfl, in_X15, by decide, Or.inl q1543, Or.inl rfl⟩
theorem pl_X15_19_X15 : zPL "FranchiseLedger$Posting" 19 14 3 .int true := ⟨RX15, TX15, 5, "FranchiseLedger$Posting", tyX15, rfl, in_X15, by decide, Or.inl q1543, Or.inl rfl, tyX15_ok, nmX15, rfl, (fun _ => rfl), rfl⟩
theorem fl_X15_22_X15 : zFL "FranchiseLedger$Posting" 22 14 4 := ⟨RX15, TX15, 5, "FranchiseLedger$Posting", rfl, in_X15, by decide, Or.inl q1544, Or.inl rfl⟩
theorem pl_X15_22_X15 : zPL "FranchiseLedger$Posting" 22 14 4 .long true := ⟨RX15, TX15, 5, "FranchiseLedger$Posting", tyX15, rfl, in_X15, by decide, Or.inl q1544, Or.inl rfl, tyX15_ok, nmX15, rfl, (fun _ => rfl), rfl⟩
theorem cv_X7_313_X7 : zCV "FranchiseLedger$Reader" 313 "FranchiseLedger$Reader" yX7_delivery cX7_delivery 4 (Option.some (Jvm.ClassFile.FieldType.object "FranchiseLedger$Posting")) 0 := ⟨q1556, q1558, qs22, q157, q1559, rfl, ⟨by decide +kernel, by decide +kernel, by decide +kernel⟩⟩
theorem cv_X7_320_X7 : zCV "FranchiseLedger$Reader" 320 "FranchiseLedger$Reader" yX7_vote cX7_vote 4 (Option.some (Jvm.ClassFile.FieldType.object "FranchiseLedger$Posting")) 0 := ⟨q1584, q1586, qs26, q157, q1587, rfl, ⟨by decide +kernel, by decide +kernel, by decide +kernel⟩⟩
theorem fl_X7_288_X1 : zFL "FranchiseLedger$Reader" 288 0 0 := ⟨RX1, TX1, 10, "FranchiseLedger", rfl, in_X1, by decide, Or.inr ⟨_, q689⟩, Or.inl rfl⟩
theorem cv_X7_197_X7 : zCV "FranchiseLedger$Reader" 197 "FranchiseLedger$Reader" yX7_namedIn cX7_namedIn 3 (Option.some Jvm.ClassFile.FieldType.int) 1 := ⟨q1564, q1566, qs24, q157, q1567, rfl, ⟨by decide +kernel, by decide +kernel, by decide +kernel⟩⟩
theorem cv_X7_184_X7 : zCV "FranchiseLedger$Reader" 184 "FranchiseLedger$Reader" yX7_isReserved cX7_isReserved 3 (Option.some Jvm.ClassFile.FieldType.boolean) 0 := ⟨q1568, q1570, qs25, q157, q1571, rfl, ⟨by decide +kernel, by decide +kernel, by decide +kernel⟩⟩
theorem cv_X7_187_X2 : zCV "FranchiseLedger$Reader" 187 "FranchiseLedger$Rules" yX2_named cX2_named 3 (Option.some Jvm.ClassFile.FieldType.int) 1 := ⟨q1582, q1139, q1140, q130, q1141, rfl, ⟨by decide +kernel, by decide +kernel, by decide +kernel⟩⟩
theorem cv_J9_571_J9 : zCV "java/lang/String" 571 "java/lang/String" yJ9_equals cJ9_equals 3 (Option.some Jvm.ClassFile.FieldType.boolean) 1 := ⟨q1271, q1272, q1273, q140, q1274, rfl, ⟨by decide +kernel, by decide +kernel, by decide +kernel⟩⟩
theorem cv_X7_316_X7 : zCV "FranchiseLedger$Reader" 316 "FranchiseLedger$Reader" yX7_toFranchisee cX7_toFranchisee 3 (Option.some (Jvm.ClassFile.FieldType.object "FranchiseLedger$Posting")) 1 := ⟨q1560, q1562, qs23, q157, q1563, rfl, ⟨by decide +kernel, by decide +kernel, by decide +kernel⟩⟩
theorem cv_X7_175_J2 : zCF "FranchiseLedger$Reader" 175 "java/util/ArrayList" ⟨"java/util/List", "add", "(Ljava/lang/Object;)Z"⟩ yJ2_add cJ2_add 2 (Option.some Jvm.ClassFile.FieldType.boolean) 1 := ⟨q1591, q967, q969, q133, q971, by decide +kernel, ⟨by decide +kernel, by decide +kernel, by decide +kernel⟩⟩
theorem cv_X1_522_J19 : zCV "FranchiseLedger" 522 "java/util/LinkedList" yJ19_clear cJ19_clear 3 (Option.none : Option Jvm.ClassFile.FieldType) 0 := ⟨q1596, q1597, q1598, q155, q1599, rfl, ⟨by decide +kernel, by decide +kernel, by decide +kernel⟩⟩
theorem fl_J19_18_J19 : zFL "java/util/LinkedList" 18 16 2 := ⟨RJ19, TJ19, 4, "java/util/LinkedList", rfl, in_J19, by decide, Or.inl q673, Or.inl rfl⟩
theorem fl_J19_27_J19 : zFL "java/util/LinkedList" 27 16 3 := ⟨RJ19, TJ19, 4, "java/util/LinkedList", rfl, in_J19, by decide, Or.inl q674, Or.inl rfl⟩
theorem pl_J19_27_J19 : zPL "java/util/LinkedList" 27 16 3 (.object "java/util/LinkedList$Node") false := ⟨RJ19, TJ19, 4, "java/util/LinkedList", tyJ19, rfl, in_J19, by decide, Or.inl q674, Or.inl rfl, tyJ19_ok, nmJ19, rfl, (fun h => by cases h), rfl⟩
theorem pl_J19_18_J19 : zPL "java/util/LinkedList" 18 16 2 (.object "java/util/LinkedList$Node") false := ⟨RJ19, TJ19, 4, "java/util/LinkedList", tyJ19, rfl, in_J19, by decide, Or.inl q673, Or.inl rfl, tyJ19_ok, nmJ19, rfl, (fun h => by cases h), rfl⟩
theorem fl_J19_33_J19 : zFL "java/util/LinkedList" 33 16 0 := ⟨RJ19, TJ19, 4, "java/util/LinkedList", rfl, in_J19, by decide, Or.inl q527, Or.inr q528⟩
theorem pl_J19_33_J19 : zPL "java/util/LinkedList" 33 16 0 .int false := ⟨RJ19, TJ19, 4, "java/util/LinkedList", tyJ19, rfl, in_J19, by decide, Or.inl q527, Or.inr q528, tyJ19_ok, nmJ19, rfl, (fun h => by cases h), rfl⟩
theorem fl_J19_36_J20 : zFL "java/util/LinkedList" 36 17 1 := ⟨RJ20, TJ20, 3, "java/util/LinkedList$Node", rfl, in_J20, by decide, Or.inl q1045, Or.inl rfl⟩
theorem fl_J19_39_J20 : zFL "java/util/LinkedList" 39 17 0 := ⟨RJ20, TJ20, 3, "java/util/LinkedList$Node", rfl, in_J20, by decide, Or.inl q1043, Or.inl rfl⟩
theorem pl_J19_39_J20 : zPL "java/util/LinkedList" 39 17 0 (.object "java/lang/Object") false := ⟨RJ20, TJ20, 3, "java/util/LinkedList$Node", tyJ20, rfl, in_J20, by decide, Or.inl q1043, Or.inl rfl, tyJ20_ok, nmJ20, rfl, (fun h => by cases h), rfl⟩
theorem pl_J19_36_J20 : zPL "java/util/LinkedList" 36 17 1 (.object "java/util/LinkedList$Node") false := ⟨RJ20, TJ20, 3, "java/util/LinkedList$Node", tyJ20, rfl, in_J20, by decide, Or.inl q1045, Or.inl rfl, tyJ20_ok, nmJ20, rfl, (fun h => by cases h), rfl⟩
theorem fl_J19_30_J20 : zFL "java/util/LinkedList" 30 17 2 := ⟨RJ20, TJ20, 3, "java/util/LinkedList$Node", rfl, in_J20, by decide, Or.inl q1047, Or.inl rfl⟩
theorem pl_J19_30_J20 : zPL "java/util/LinkedList" 30 17 2 (.object "java/util/LinkedList$Node") false := ⟨RJ20, TJ20, 3, "java/util/LinkedList$Node", tyJ20, rfl, in_J20, by decide, Or.inl q1047, Or.inl rfl, tyJ20_ok, nmJ20, rfl, (fun h => by cases h), rfl⟩
theorem cv_X1_525_J19 : zCV "FranchiseLedger" 525 "java/util/LinkedList" yJ19_addLast cJ19_addLast 2 (Option.none : Option Jvm.ClassFile.FieldType) 1 := ⟨q1601, q1602, q1603, q155, q1604, rfl, ⟨by decide +kernel, by decide +kernel, by decide +kernel⟩⟩
theorem cv_J19_57_J19 : zCV "java/util/LinkedList" 57 "java/util/LinkedList" yJ19_linkLast cJ19_linkLast 4 (Option.none : Option Jvm.ClassFile.FieldType) 1 := ⟨q1032, q1033, q1034, q155, q1035, rfl, ⟨by decide +kernel, by decide +kernel, by decide +kernel⟩⟩
theorem nw_J20 : ∀ j, j < 3 → defaultValue (tyJ20 j) = vp_V [.null, .null, .null] j := by
  intro j hj
  rcases (show j = 0 ∨ j = 1 ∨ j = 2 by omega) with rfl | rfl | rfl <;> rfl
theorem cv_J19_24 : zCI "java/util/LinkedList" 24 yJ20_init cJ20_init 4 3 := ⟨q1038, q1039, q161, q1040, rfl, ⟨by decide +kernel, by decide +kernel, by decide +kernel⟩⟩
theorem fl_J20_7_J20 : zFL "java/util/LinkedList$Node" 7 17 0 := ⟨RJ20, TJ20, 3, "java/util/LinkedList$Node", rfl, in_J20, by decide, Or.inl q1042, Or.inl rfl⟩
theorem pl_J20_7_J20 : zPL "java/util/LinkedList$Node" 7 17 0 (.object "java/lang/Object") false := ⟨RJ20, TJ20, 3, "java/util/LinkedList$Node", tyJ20, rfl, in_J20, by decide, Or.inl q1042, Or.inl rfl, tyJ20_ok, nmJ20, rfl, (fun h => by cases h), rfl⟩
theorem fl_J20_13_J20 : zFL "java/util/LinkedList$Node" 13 17 1 := ⟨RJ20, TJ20, 3, "java/util/LinkedList$Node", rfl, in_J20, by decide, Or.inl q1044, Or.inl rfl⟩
theorem pl_J20_13_J20 : zPL "java/util/LinkedList$Node" 13 17 1 (.object "java/util/LinkedList$Node") false := ⟨RJ20, TJ20, 3, "java/util/LinkedList$Node", tyJ20, rfl, in_J20, by decide, Or.inl q1044, Or.inl rfl, tyJ20_ok, nmJ20, rfl, (fun h => by cases h), rfl⟩
theorem fl_J20_17_J20 : zFL "java/util/LinkedList$Node" 17 17 2 := ⟨RJ20, TJ20, 3, "java/util/LinkedList$Node", rfl, in_J20, by decide, Or.inl q1046, Or.inl rfl⟩
theorem pl_J20_17_J20 : zPL "java/util/LinkedList$Node" 17 17 2 (.object "java/util/LinkedList$Node") false := ⟨RJ20, TJ20, 3, "java/util/LinkedList$Node", tyJ20, rfl, in_J20, by decide, Or.inl q1046, Or.inl rfl, tyJ20_ok, nmJ20, rfl, (fun h => by cases h), rfl⟩
theorem cv_X1_518_X1 : zCV "FranchiseLedger" 518 "FranchiseLedger" yX1_fail cX1_fail 2 (Option.some Jvm.ClassFile.FieldType.int) 1 := ⟨q1592, q1594, qs27, q129, q1595, rfl, ⟨by decide +kernel, by decide +kernel, by decide +kernel⟩⟩
theorem fl_X1_497_X8 : zFL "FranchiseLedger" 497 7 6 := ⟨RX8, TX8, 8, "FranchiseLedger$TextError", rfl, in_X8, by decide, Or.inr ⟨_, q1436⟩, Or.inl rfl⟩
theorem fl_X1_502_X1 : zFL "FranchiseLedger" 502 0 8 := ⟨RX1, TX1, 10, "FranchiseLedger", rfl, in_X1, by decide, Or.inl q700, Or.inl rfl⟩
theorem pl_X1_502_X1 : zPL "FranchiseLedger" 502 0 8 .int false := ⟨RX1, TX1, 10, "FranchiseLedger", tyX1, rfl, in_X1, by decide, Or.inl q700, Or.inl rfl, tyX1_ok, nmX1, rfl, (fun h => by cases h), rfl⟩
theorem fl_X1_505_X8 : zFL "FranchiseLedger" 505 7 7 := ⟨RX8, TX8, 8, "FranchiseLedger$TextError", rfl, in_X8, by decide, Or.inr ⟨_, q1438⟩, Or.inl rfl⟩
theorem cv_X1_529_X7 : zCV "FranchiseLedger" 529 "FranchiseLedger$Reader" yX7_read cX7_read 1 (Option.none : Option Jvm.ClassFile.FieldType) 0 := ⟨q1609, q1610, q1611, q157, q1612, rfl, ⟨by decide +kernel, by decide +kernel, by decide +kernel⟩⟩
theorem cv_X7_275_X7 : zCV "FranchiseLedger$Reader" 275 "FranchiseLedger$Reader" yX7_statement cX7_statement 3 (Option.none : Option Jvm.ClassFile.FieldType) 0 := ⟨q1613, q1615, qs28, q157, q1616, rfl, ⟨by decide +kernel, by decide +kernel, by decide +kernel⟩⟩
theorem cv_X7_260_X7 : zCV "FranchiseLedger$Reader" 260 "FranchiseLedger$Reader" yX7_plan cX7_plan 3 (Option.none : Option Jvm.ClassFile.FieldType) 0 := ⟨q1617, q1619, qs29, q157, q1620, rfl, ⟨by decide +kernel, by decide +kernel, by decide +kernel⟩⟩
theorem fl_X7_153_X2 : zFL "FranchiseLedger$Reader" 153 2 0 := ⟨RX2, TX2, 10, "FranchiseLedger$Rules", rfl, in_X2, by decide, Or.inr ⟨_, q553⟩, Or.inl rfl⟩
theorem nw_X9 : ∀ j, j < 2 → defaultValue (tyX9 j) = vp_V [.null, .null] j := by
  intro j hj
  rcases (show j = 0 ∨ j = 1 by omega) with rfl | rfl <;> rfl
theorem cv_X7_166 : zCI "FranchiseLedger$Reader" 166 yX9_init cX9_init 2 1 := ⟨q1623, q1624, q159, q1625, rfl, ⟨by decide +kernel, by decide +kernel, by decide +kernel⟩⟩
theorem cv_X9_9 : zCI "FranchiseLedger$Plan" 9 yJ2_init cJ2_init 2 1 := ⟨q1628, q193, q133, q194, rfl, ⟨by decide +kernel, by decide +kernel, by decide +kernel⟩⟩
theorem fl_X9_12_X9 : zFL "FranchiseLedger$Plan" 12 8 1 := ⟨RX9, TX9, 2, "FranchiseLedger$Plan", rfl, in_X9, by decide, Or.inl q1633, Or.inl rfl⟩
theorem pl_X9_12_X9 : zPL "FranchiseLedger$Plan" 12 8 1 (.object "java/util/List") true := ⟨RX9, TX9, 2, "FranchiseLedger$Plan", tyX9, rfl, in_X9, by decide, Or.inl q1633, Or.inl rfl, tyX9_ok, nmX9, rfl, (fun _ => rfl), rfl⟩
theorem cv_X9_20 : zCIN "FranchiseLedger$Plan" 20 yX3_init cX3_init 2 1 := ⟨_, q1630, q541, q151, q542, rfl, ⟨by decide +kernel, by decide +kernel, by decide +kernel⟩⟩
theorem fl_X9_21_X9 : zFL "FranchiseLedger$Plan" 21 8 0 := ⟨RX9, TX9, 2, "FranchiseLedger$Plan", rfl, in_X9, by decide, Or.inl q1631, Or.inl rfl⟩
theorem pl_X9_21_X9 : zPL "FranchiseLedger$Plan" 21 8 0 (.object "FranchiseLedger$Rate") true := ⟨RX9, TX9, 2, "FranchiseLedger$Plan", tyX9, rfl, in_X9, by decide, Or.inl q1631, Or.inl rfl, tyX9_ok, nmX9, rfl, (fun _ => rfl), rfl⟩
theorem fl_X7_167_X9 : zFL "FranchiseLedger$Reader" 167 8 1 := ⟨RX9, TX9, 2, "FranchiseLedger$Plan", rfl, in_X9, by decide, Or.inr ⟨_, q1634⟩, Or.inl rfl⟩
theorem nw_X10 : ∀ j, j < 2 → defaultValue (tyX10 j) = vp_V [.long 0, .int 0] j := by
  intro j hj
  rcases (show j = 0 ∨ j = 1 by omega) with rfl | rfl <;> rfl
theorem cv_X7_172 : zCIN "FranchiseLedger$Reader" 172 yX10_init cX10_init 4 2 := ⟨_, q1642, q1643, q160, q1644, rfl, ⟨by decide +kernel, by decide +kernel, by decide +kernel⟩⟩
theorem cv_X10_1 : zCI "FranchiseLedger$Tier" 1 yJ17_init cJ17_init 1 0 := ⟨q1645, q544, q150, q545, rfl, ⟨by decide +kernel, by decide +kernel, by decide +kernel⟩⟩
theorem fl_X10_7_X10 : zFL "FranchiseLedger$Tier" 7 9 0 := ⟨RX10, TX10, 2, "FranchiseLedger$Tier", rfl, in_X10, by decide, Or.inl q1646, Or.inl rfl⟩
theorem pl_X10_7_X10 : zPL "FranchiseLedger$Tier" 7 9 0 .long true := ⟨RX10, TX10, 2, "FranchiseLedger$Tier", tyX10, rfl, in_X10, by decide, Or.inl q1646, Or.inl rfl, tyX10_ok, nmX10, rfl, (fun _ => rfl), rfl⟩
theorem fl_X10_13_X10 : zFL "FranchiseLedger$Tier" 13 9 1 := ⟨RX10, TX10, 2, "FranchiseLedger$Tier", rfl, in_X10, by decide, Or.inl q1647, Or.inl rfl⟩
theorem pl_X10_13_X10 : zPL "FranchiseLedger$Tier" 13 9 1 .int true := ⟨RX10, TX10, 2, "FranchiseLedger$Tier", tyX10, rfl, in_X10, by decide, Or.inl q1647, Or.inl rfl, tyX10_ok, nmX10, rfl, (fun _ => rfl), rfl⟩
theorem cv_X7_262_X7 : zCV "FranchiseLedger$Reader" 262 "FranchiseLedger$Reader" yX7_franchisee cX7_franchisee 3 (Option.none : Option Jvm.ClassFile.FieldType) 0 := ⟨q1654, q1656, qs30, q157, q1657, rfl, ⟨by decide +kernel, by decide +kernel, by decide +kernel⟩⟩
theorem fl_X7_181_X4 : zFL "FranchiseLedger$Reader" 181 4 0 := ⟨RX4, TX4, 7, "FranchiseLedger$Books", rfl, in_X4, by decide, Or.inr ⟨_, q632⟩, Or.inl rfl⟩
theorem cv_X7_193 : zCI "FranchiseLedger$Reader" 193 yX11_init cX11_init 3 2 := ⟨q1659, q864, q167, q865, rfl, ⟨by decide +kernel, by decide +kernel, by decide +kernel⟩⟩
theorem fl_X7_194_X2 : zFL "FranchiseLedger$Reader" 194 2 1 := ⟨RX2, TX2, 10, "FranchiseLedger$Rules", rfl, in_X2, by decide, Or.inr ⟨_, q556⟩, Or.inl rfl⟩
theorem cv_X7_264_X7 : zCV "FranchiseLedger$Reader" 264 "FranchiseLedger$Reader" yX7_area cX7_area 7 (Option.none : Option Jvm.ClassFile.FieldType) 0 := ⟨q1660, q1662, qs31, q157, q1663, rfl, ⟨by decide +kernel, by decide +kernel, by decide +kernel⟩⟩
theorem cv_X7_216_X7 : zCV "FranchiseLedger$Reader" 216 "FranchiseLedger$Reader" yX7_named cX7_named 1 (Option.some Jvm.ClassFile.FieldType.int) 0 := ⟨q1664, q1666, qs32, q157, q1667, rfl, ⟨by decide +kernel, by decide +kernel, by decide +kernel⟩⟩
theorem nw_X13 : ∀ j, j < 4 → defaultValue (tyX13 j) = vp_V [.int 0, .int 0, .int 0, .int 0] j := by
  intro j hj
  rcases (show j = 0 ∨ j = 1 ∨ j = 2 ∨ j = 3 by omega) with rfl | rfl | rfl | rfl <;> rfl
theorem cv_X7_218 : zCIN "FranchiseLedger$Reader" 218 yX13_init cX13_init 5 4 := ⟨_, q1670, q1671, q169, q1672, rfl, ⟨by decide +kernel, by decide +kernel, by decide +kernel⟩⟩
theorem cv_X13_1 : zCI "FranchiseLedger$Area" 1 yJ17_init cJ17_init 1 0 := ⟨q1673, q544, q150, q545, rfl, ⟨by decide +kernel, by decide +kernel, by decide +kernel⟩⟩
theorem fl_X13_7_X13 : zFL "FranchiseLedger$Area" 7 12 0 := ⟨RX13, TX13, 4, "FranchiseLedger$Area", rfl, in_X13, by decide, Or.inl q1674, Or.inl rfl⟩
theorem pl_X13_7_X13 : zPL "FranchiseLedger$Area" 7 12 0 .int true := ⟨RX13, TX13, 4, "FranchiseLedger$Area", tyX13, rfl, in_X13, by decide, Or.inl q1674, Or.inl rfl, tyX13_ok, nmX13, rfl, (fun _ => rfl), rfl⟩
theorem fl_X13_13_X13 : zFL "FranchiseLedger$Area" 13 12 1 := ⟨RX13, TX13, 4, "FranchiseLedger$Area", rfl, in_X13, by decide, Or.inl q1675, Or.inl rfl⟩
theorem pl_X13_13_X13 : zPL "FranchiseLedger$Area" 13 12 1 .int true := ⟨RX13, TX13, 4, "FranchiseLedger$Area", tyX13, rfl, in_X13, by decide, Or.inl q1675, Or.inl rfl, tyX13_ok, nmX13, rfl, (fun _ => rfl), rfl⟩
theorem fl_X13_16_X13 : zFL "FranchiseLedger$Area" 16 12 2 := ⟨RX13, TX13, 4, "FranchiseLedger$Area", rfl, in_X13, by decide, Or.inl q1676, Or.inl rfl⟩
theorem pl_X13_16_X13 : zPL "FranchiseLedger$Area" 16 12 2 .int true := ⟨RX13, TX13, 4, "FranchiseLedger$Area", tyX13, rfl, in_X13, by decide, Or.inl q1676, Or.inl rfl, tyX13_ok, nmX13, rfl, (fun _ => rfl), rfl⟩
theorem fl_X13_19_X13 : zFL "FranchiseLedger$Area" 19 12 3 := ⟨RX13, TX13, 4, "FranchiseLedger$Area", rfl, in_X13, by decide, Or.inl q1677, Or.inl rfl⟩
theorem pl_X13_19_X13 : zPL "FranchiseLedger$Area" 19 12 3 .int true := ⟨RX13, TX13, 4, "FranchiseLedger$Area", tyX13, rfl, in_X13, by decide, Or.inl q1677, Or.inl rfl, tyX13_ok, nmX13, rfl, (fun _ => rfl), rfl⟩
theorem cv_X7_221_X7 : zCV "FranchiseLedger$Reader" 221 "FranchiseLedger$Reader" yX7_isFreeFor cX7_isFreeFor 4 (Option.some Jvm.ClassFile.FieldType.boolean) 2 := ⟨q1687, q1689, qs33, q157, q1690, rfl, ⟨by decide +kernel, by decide +kernel, by decide +kernel⟩⟩
theorem cv_X7_201_X13 : zCV "FranchiseLedger$Reader" 201 "FranchiseLedger$Area" yX13_contains cX13_contains 2 (Option.some Jvm.ClassFile.FieldType.boolean) 1 := ⟨q1691, q1692, q1693, q169, q1694, rfl, ⟨by decide +kernel, by decide +kernel, by decide +kernel⟩⟩
theorem cv_X13_22 : zCSN "FranchiseLedger$Area" 22 yX1_column cX1_column 1 (Option.some Jvm.ClassFile.FieldType.int) 1 := ⟨_, q1695, q1696, q129, q1697, ⟨by decide +kernel, by decide +kernel, by decide +kernel⟩⟩
theorem cv_X13_28 : zCSN "FranchiseLedger$Area" 28 yX1_inRange cX1_inRange 6 (Option.some Jvm.ClassFile.FieldType.boolean) 3 := ⟨_, q1698, q849, q129, q850, ⟨by decide +kernel, by decide +kernel, by decide +kernel⟩⟩
theorem cv_X13_32 : zCSN "FranchiseLedger$Area" 32 yX1_row cX1_row 1 (Option.some Jvm.ClassFile.FieldType.int) 1 := ⟨_, q1699, q1700, q129, q1701, ⟨by decide +kernel, by decide +kernel, by decide +kernel⟩⟩
theorem fl_X7_207_X4 : zFL "FranchiseLedger$Reader" 207 4 2 := ⟨RX4, TX4, 7, "FranchiseLedger$Books", rfl, in_X4, by decide, Or.inr ⟨_, q637⟩, Or.inl rfl⟩
theorem fl_X7_211_X5 : zFL "FranchiseLedger$Reader" 211 5 0 := ⟨RX5, TX5, 3, "FranchiseLedger$Grid", rfl, in_X5, by decide, Or.inr ⟨_, q615⟩, Or.inl rfl⟩
theorem cv_X7_266_X7 : zCV "FranchiseLedger$Reader" 266 "FranchiseLedger$Reader" yX7_outlet cX7_outlet 4 (Option.none : Option Jvm.ClassFile.FieldType) 0 := ⟨q1702, q1704, qs34, q157, q1705, rfl, ⟨by decide +kernel, by decide +kernel, by decide +kernel⟩⟩
theorem fl_X7_225_X4 : zFL "FranchiseLedger$Reader" 225 4 1 := ⟨RX4, TX4, 7, "FranchiseLedger$Books", rfl, in_X4, by decide, Or.inr ⟨_, q635⟩, Or.inl rfl⟩
theorem cv_X7_228 : zCSN "FranchiseLedger$Reader" 228 yX1_cell cX1_cell 2 (Option.some Jvm.ClassFile.FieldType.int) 2 := ⟨_, q1706, q1707, q129, q1708, ⟨by decide +kernel, by decide +kernel, by decide +kernel⟩⟩
theorem cv_X7_231_X4 : zCV "FranchiseLedger$Reader" 231 "FranchiseLedger$Books" yX4_hasOutlet cX4_hasOutlet 3 (Option.some Jvm.ClassFile.FieldType.boolean) 1 := ⟨q1709, q1710, q1711, q152, q1712, rfl, ⟨by decide +kernel, by decide +kernel, by decide +kernel⟩⟩
theorem cv_X4_209_X14 : zCV "FranchiseLedger$Books" 209 "FranchiseLedger$Outlet" yX14_isOpen cX14_isOpen 1 (Option.some Jvm.ClassFile.FieldType.boolean) 0 := ⟨q1713, q1714, q1715, q170, q1716, rfl, ⟨by decide +kernel, by decide +kernel, by decide +kernel⟩⟩
theorem cv_X7_236 : zCI "FranchiseLedger$Reader" 236 yX14_init_2 cX14_init_2 3 2 := ⟨q1718, q1719, q170, q1720, rfl, ⟨by decide +kernel, by decide +kernel, by decide +kernel⟩⟩
theorem cv_X14_3 : zCI "FranchiseLedger$Outlet" 3 yX14_init cX14_init 5 3 := ⟨q1721, q1058, q170, q1059, rfl, ⟨by decide +kernel, by decide +kernel, by decide +kernel⟩⟩
theorem cv_X7_268_X7 : zCV "FranchiseLedger$Reader" 268 "FranchiseLedger$Reader" yX7_setting cX7_setting 4 (Option.none : Option Jvm.ClassFile.FieldType) 1 := ⟨q1722, q1724, qs35, q157, q1725, rfl, ⟨by decide +kernel, by decide +kernel, by decide +kernel⟩⟩
theorem cv_X7_247_X7 : zCV "FranchiseLedger$Reader" 247 "FranchiseLedger$Reader" yX7_credit cX7_credit 1 (Option.none : Option Jvm.ClassFile.FieldType) 0 := ⟨q1726, q1728, qs36, q157, q1729, rfl, ⟨by decide +kernel, by decide +kernel, by decide +kernel⟩⟩
theorem cv_X7_239 : zCIN "FranchiseLedger$Reader" 239 yX3_init cX3_init 2 1 := ⟨_, q1731, q541, q151, q542, rfl, ⟨by decide +kernel, by decide +kernel, by decide +kernel⟩⟩
theorem fl_X7_240_X2 : zFL "FranchiseLedger$Reader" 240 2 2 := ⟨RX2, TX2, 10, "FranchiseLedger$Rules", rfl, in_X2, by decide, Or.inr ⟨_, q559⟩, Or.inl rfl⟩
theorem pl_X7_240_X2 : zPL "FranchiseLedger$Reader" 240 2 2 (.object "FranchiseLedger$Rate") false := ⟨RX2, TX2, 10, "FranchiseLedger$Rules", tyX2, rfl, in_X2, by decide, Or.inr ⟨rfl, _, q559⟩, Or.inl rfl, tyX2_ok, nmX2, rfl, (fun h => by cases h), rfl⟩
theorem fl_X7_243_X2 : zFL "FranchiseLedger$Reader" 243 2 5 := ⟨RX2, TX2, 10, "FranchiseLedger$Rules", rfl, in_X2, by decide, Or.inr ⟨_, q568⟩, Or.inl rfl⟩
theorem pl_X7_243_X2 : zPL "FranchiseLedger$Reader" 243 2 5 .long false := ⟨RX2, TX2, 10, "FranchiseLedger$Rules", tyX2, rfl, in_X2, by decide, Or.inr ⟨rfl, _, q568⟩, Or.inl rfl, tyX2_ok, nmX2, rfl, (fun h => by cases h), rfl⟩
theorem fl_X7_249_X2 : zFL "FranchiseLedger$Reader" 249 2 3 := ⟨RX2, TX2, 10, "FranchiseLedger$Rules", rfl, in_X2, by decide, Or.inr ⟨_, q562⟩, Or.inl rfl⟩
theorem pl_X7_249_X2 : zPL "FranchiseLedger$Reader" 249 2 3 (.object "FranchiseLedger$Rate") false := ⟨RX2, TX2, 10, "FranchiseLedger$Rules", tyX2, rfl, in_X2, by decide, Or.inr ⟨rfl, _, q562⟩, Or.inl rfl, tyX2_ok, nmX2, rfl, (fun h => by cases h), rfl⟩
theorem fl_X7_251_X2 : zFL "FranchiseLedger$Reader" 251 2 4 := ⟨RX2, TX2, 10, "FranchiseLedger$Rules", rfl, in_X2, by decide, Or.inr ⟨_, q566⟩, Or.inl rfl⟩
theorem pl_X7_251_X2 : zPL "FranchiseLedger$Reader" 251 2 4 (.object "FranchiseLedger$Rate") false := ⟨RX2, TX2, 10, "FranchiseLedger$Rules", tyX2, rfl, in_X2, by decide, Or.inr ⟨rfl, _, q566⟩, Or.inl rfl, tyX2_ok, nmX2, rfl, (fun h => by cases h), rfl⟩
theorem fl_X7_253_X2 : zFL "FranchiseLedger$Reader" 253 2 6 := ⟨RX2, TX2, 10, "FranchiseLedger$Rules", rfl, in_X2, by decide, Or.inr ⟨_, q570⟩, Or.inl rfl⟩
theorem pl_X7_253_X2 : zPL "FranchiseLedger$Reader" 253 2 6 .long false := ⟨RX2, TX2, 10, "FranchiseLedger$Rules", tyX2, rfl, in_X2, by decide, Or.inr ⟨rfl, _, q570⟩, Or.inl rfl, tyX2_ok, nmX2, rfl, (fun h => by cases h), rfl⟩
theorem fl_X7_255_X2 : zFL "FranchiseLedger$Reader" 255 2 7 := ⟨RX2, TX2, 10, "FranchiseLedger$Rules", rfl, in_X2, by decide, Or.inr ⟨_, q572⟩, Or.inl rfl⟩
theorem pl_X7_255_X2 : zPL "FranchiseLedger$Reader" 255 2 7 .int false := ⟨RX2, TX2, 10, "FranchiseLedger$Rules", tyX2, rfl, in_X2, by decide, Or.inr ⟨rfl, _, q572⟩, Or.inl rfl, tyX2_ok, nmX2, rfl, (fun h => by cases h), rfl⟩
theorem fl_X7_257_X2 : zFL "FranchiseLedger$Reader" 257 2 8 := ⟨RX2, TX2, 10, "FranchiseLedger$Rules", rfl, in_X2, by decide, Or.inr ⟨_, q574⟩, Or.inl rfl⟩
theorem pl_X7_257_X2 : zPL "FranchiseLedger$Reader" 257 2 8 .int false := ⟨RX2, TX2, 10, "FranchiseLedger$Rules", tyX2, rfl, in_X2, by decide, Or.inr ⟨rfl, _, q574⟩, Or.inl rfl, tyX2_ok, nmX2, rfl, (fun h => by cases h), rfl⟩
theorem fl_X7_272_X2 : zFL "FranchiseLedger$Reader" 272 2 9 := ⟨RX2, TX2, 10, "FranchiseLedger$Rules", rfl, in_X2, by decide, Or.inr ⟨_, q576⟩, Or.inl rfl⟩
theorem pl_X7_272_X2 : zPL "FranchiseLedger$Reader" 272 2 9 .int false := ⟨RX2, TX2, 10, "FranchiseLedger$Rules", tyX2, rfl, in_X2, by decide, Or.inr ⟨rfl, _, q576⟩, Or.inl rfl, tyX2_ok, nmX2, rfl, (fun h => by cases h), rfl⟩
theorem fl_X1_532_X7 : zFL "FranchiseLedger" 532 6 1 := ⟨RX7, TX7, 9, "FranchiseLedger$Reader", rfl, in_X7, by decide, Or.inr ⟨_, q1377⟩, Or.inl rfl⟩
theorem fl_X1_535_X7 : zFL "FranchiseLedger" 535 6 2 := ⟨RX7, TX7, 9, "FranchiseLedger$Reader", rfl, in_X7, by decide, Or.inr ⟨_, q1379⟩, Or.inl rfl⟩
theorem fl_X1_538_X2 : zFL "FranchiseLedger" 538 2 9 := ⟨RX2, TX2, 10, "FranchiseLedger$Rules", rfl, in_X2, by decide, Or.inr ⟨_, q577⟩, Or.inl rfl⟩
theorem cv_X1_168 : zCS "FranchiseLedger" 168 yX1_requireArguments cX1_requireArguments 5 (Option.none : Option Jvm.ClassFile.FieldType) 1 := ⟨q1749, q1750, q129, q1751, ⟨by decide +kernel, by decide +kernel, by decide +kernel⟩⟩
set_option maxHeartbeats 1000000 in
theorem ex_X1_9_11 : zEX "FranchiseLedger" 9 11 21 := by
  refine ⟨"java/lang/IllegalArgumentException", ["java/lang/RuntimeException", "java/lang/Exception"], _, rfl, by decide +kernel, by decide +kernel, by decide, q1752, q137, ?_, by decide +kernel⟩
  exact (List.forall_mem_cons.mpr ⟨Or.inl q134, (List.forall_mem_cons.mpr ⟨Or.inl q228, (List.forall_mem_cons.mpr ⟨Or.inl q237, (List.forall_mem_cons.mpr ⟨Or.inl q244, (List.forall_mem_cons.mpr ⟨Or.inl q247, (List.forall_mem_cons.mpr ⟨Or.inl q249, (List.forall_mem_cons.mpr ⟨Or.inl q229, (List.forall_mem_cons.mpr ⟨Or.inl q230, (List.forall_mem_cons.mpr ⟨Or.inl q182, (List.forall_mem_cons.mpr ⟨Or.inl q183, (List.forall_mem_cons.mpr ⟨Or.inl q231, (List.forall_mem_cons.mpr ⟨Or.inl q236, (List.forall_mem_cons.mpr ⟨Or.inl q245, (List.forall_mem_cons.mpr ⟨Or.inl q486, (List.forall_mem_cons.mpr ⟨Or.inl q218, (List.forall_mem_cons.mpr ⟨Or.inl q487, (List.forall_mem_cons.mpr ⟨Or.inl q220, (List.forall_mem_cons.mpr ⟨Or.inl q488, (List.forall_mem_cons.mpr ⟨Or.inl q222, (List.forall_mem_cons.mpr ⟨Or.inl q232, (List.forall_mem_cons.mpr ⟨Or.inl q234, (List.forall_mem_cons.mpr ⟨Or.inl q224, (List.forall_mem_cons.mpr ⟨Or.inl q1754, (List.forall_mem_cons.mpr ⟨Or.inl q1755, (List.forall_mem_cons.mpr ⟨Or.inl q1756, (List.forall_mem_cons.mpr ⟨Or.inl q1757, (List.forall_mem_cons.mpr ⟨Or.inr ⟨q209, rfl⟩, (List.forall_mem_cons.mpr ⟨Or.inl q1757, (List.forall_mem_cons.mpr ⟨Or.inl q1758, (List.forall_mem_cons.mpr ⟨Or.inl q1759, (List.forall_mem_cons.mpr ⟨Or.inl q1760, (List.forall_mem_cons.mpr ⟨Or.inr ⟨q211, rfl⟩, (List.forall_mem_cons.mpr ⟨Or.inl q1760, (List.forall_mem_cons.mpr ⟨Or.inl q1761, (List.forall_mem_cons.mpr ⟨Or.inl q1762, (List.forall_mem_cons.mpr ⟨Or.inl q229, (List.forall_mem_cons.mpr ⟨Or.inr ⟨q213, rfl⟩, (List.forall_mem_cons.mpr ⟨Or.inl q1753, (List.forall_mem_cons.mpr ⟨Or.inl q207, (List.forall_mem_cons.mpr ⟨Or.inr ⟨q208, rfl⟩, (List.forall_mem_cons.mpr ⟨Or.inl q215, (List.forall_mem_cons.mpr ⟨Or.inl q216, (List.forall_mem_cons.mpr ⟨Or.inl q217, (List.forall_mem_cons.mpr ⟨Or.inl q219, (List.forall_mem_cons.mpr ⟨Or.inl q221, (List.forall_mem_cons.mpr ⟨Or.inl q223, (List.forall_mem_cons.mpr ⟨Or.inl q227, (List.forall_mem_cons.mpr ⟨Or.inl q226, (List.forall_mem_cons.mpr ⟨Or.inl q225, (List.forall_mem_nil _)⟩)⟩)⟩)⟩)⟩)⟩)⟩)⟩)⟩)⟩)⟩)⟩)⟩)⟩)⟩)⟩)⟩)⟩)⟩)⟩)⟩)⟩)⟩)⟩)⟩)⟩)⟩)⟩)⟩)⟩)⟩)⟩)⟩)⟩)⟩)⟩)⟩)⟩)⟩)⟩)⟩)⟩)⟩)⟩)⟩)⟩)⟩)⟩)⟩)
theorem cv_X1_428_J19 : zCU "FranchiseLedger" 428 "java/util/LinkedList" "java/util/AbstractCollection" ⟨"java/util/LinkedList", "isEmpty", "()Z"⟩ yJ0_isEmpty cJ0_isEmpty 1 (Option.some Jvm.ClassFile.FieldType.boolean) 0 := ⟨q1763, q1764, q1766, q1767, q131, q1768, rfl, ⟨by decide +kernel, by decide +kernel, by decide +kernel⟩⟩
theorem cv_J0_7_J19 : zCO "java/util/AbstractCollection" 7 "java/util/LinkedList" "java/util/AbstractCollection" ⟨"java/util/AbstractCollection", "size", "()I"⟩ yJ19_size cJ19_size 1 (Option.some Jvm.ClassFile.FieldType.int) 0 := ⟨q1769, q1771, Or.inl q1773, q741, q155, q743, Or.inr q1770, ⟨by decide +kernel, by decide +kernel, by decide +kernel⟩⟩
theorem cv_X1_431_J19 : zCV "FranchiseLedger" 431 "java/util/LinkedList" yJ19_removeFirst cJ19_removeFirst 2 (Option.some (Jvm.ClassFile.FieldType.object "java/lang/Object")) 0 := ⟨q1774, q1775, q1776, q155, q1777, rfl, ⟨by decide +kernel, by decide +kernel, by decide +kernel⟩⟩
theorem cv_J19_46_J19 : zCV "java/util/LinkedList" 46 "java/util/LinkedList" yJ19_unlinkFirst cJ19_unlinkFirst 4 (Option.some (Jvm.ClassFile.FieldType.object "java/lang/Object")) 1 := ⟨q1778, q1780, qs37, q155, q1781, rfl, ⟨by decide +kernel, by decide +kernel, by decide +kernel⟩⟩
theorem cv_X1_435_X1 : zCVX "FranchiseLedger" 435 "FranchiseLedger" yX1_succeeds cX1_succeeds 3 (Option.some Jvm.ClassFile.FieldType.boolean) [((0 : Nat), (5 : Nat), (6 : Nat), (3 : Nat)), ((0 : Nat), (5 : Nat), (6 : Nat), (9 : Nat)), ((0 : Nat), (5 : Nat), (6 : Nat), (114 : Nat))] 1 := ⟨q1782, q1784, qs38, q129, q1785, rfl, ⟨by decide +kernel, by decide +kernel, by decide +kernel⟩⟩
theorem cv_X1_422_X1 : zCV "FranchiseLedger" 422 "FranchiseLedger" yX1_isPosted cX1_isPosted 2 (Option.some Jvm.ClassFile.FieldType.boolean) 1 := ⟨q1803, q1805, qs39, q129, q1806, rfl, ⟨by decide +kernel, by decide +kernel, by decide +kernel⟩⟩
theorem cv_X1_378_X15 : zCV "FranchiseLedger" 378 "FranchiseLedger$Posting" yX15_kind cX15_kind 1 (Option.some Jvm.ClassFile.FieldType.int) 0 := ⟨q1807, q1808, q1809, q171, q1810, rfl, ⟨by decide +kernel, by decide +kernel, by decide +kernel⟩⟩
theorem cv_X1_383_X15 : zCV "FranchiseLedger" 383 "FranchiseLedger$Posting" yX15_subject cX15_subject 1 (Option.some Jvm.ClassFile.FieldType.int) 0 := ⟨q1811, q1812, q1813, q171, q1814, rfl, ⟨by decide +kernel, by decide +kernel, by decide +kernel⟩⟩
theorem cv_X1_386_X15 : zCV "FranchiseLedger" 386 "FranchiseLedger$Posting" yX15_amount cX15_amount 1 (Option.some Jvm.ClassFile.FieldType.long) 0 := ⟨q1815, q1816, q1817, q171, q1818, rfl, ⟨by decide +kernel, by decide +kernel, by decide +kernel⟩⟩
theorem cv_X1_389_X1 : zCV "FranchiseLedger" 389 "FranchiseLedger" yX1_reportSales cX1_reportSales 7 (Option.some Jvm.ClassFile.FieldType.long) 2 := ⟨q1819, q1820, q1821, q129, q1822, rfl, ⟨by decide +kernel, by decide +kernel, by decide +kernel⟩⟩
theorem cv_X1_121_X1 : zCV "FranchiseLedger" 121 "FranchiseLedger" yX1_outlet cX1_outlet 2 (Option.some (Jvm.ClassFile.FieldType.object "FranchiseLedger$Outlet")) 1 := ⟨q1823, q1825, qs40, q129, q1826, rfl, ⟨by decide +kernel, by decide +kernel, by decide +kernel⟩⟩
theorem cv_X1_92 : zCS "FranchiseLedger" 92 yX1_requireIndex cX1_requireIndex 5 (Option.none : Option Jvm.ClassFile.FieldType) 1 := ⟨q1827, q1828, q129, q1829, ⟨by decide +kernel, by decide +kernel, by decide +kernel⟩⟩
set_option maxHeartbeats 1000000 in
theorem ex_X1_3_5 : zEX "FranchiseLedger" 3 5 20 := by
  refine ⟨"java/lang/IndexOutOfBoundsException", ["java/lang/RuntimeException", "java/lang/Exception"], _, rfl, by decide +kernel, by decide +kernel, by decide, q1786, q163, ?_, by decide +kernel⟩
  exact (List.forall_mem_cons.mpr ⟨Or.inl q134, (List.forall_mem_cons.mpr ⟨Or.inl q228, (List.forall_mem_cons.mpr ⟨Or.inl q237, (List.forall_mem_cons.mpr ⟨Or.inl q244, (List.forall_mem_cons.mpr ⟨Or.inl q247, (List.forall_mem_cons.mpr ⟨Or.inl q249, (List.forall_mem_cons.mpr ⟨Or.inl q229, (List.forall_mem_cons.mpr ⟨Or.inl q230, (List.forall_mem_cons.mpr ⟨Or.inl q182, (List.forall_mem_cons.mpr ⟨Or.inl q183, (List.forall_mem_cons.mpr ⟨Or.inl q231, (List.forall_mem_cons.mpr ⟨Or.inl q236, (List.forall_mem_cons.mpr ⟨Or.inl q245, (List.forall_mem_cons.mpr ⟨Or.inl q486, (List.forall_mem_cons.mpr ⟨Or.inl q218, (List.forall_mem_cons.mpr ⟨Or.inl q487, (List.forall_mem_cons.mpr ⟨Or.inl q220, (List.forall_mem_cons.mpr ⟨Or.inl q488, (List.forall_mem_cons.mpr ⟨Or.inl q222, (List.forall_mem_cons.mpr ⟨Or.inl q232, (List.forall_mem_cons.mpr ⟨Or.inl q234, (List.forall_mem_cons.mpr ⟨Or.inl q224, (List.forall_mem_cons.mpr ⟨Or.inl q1831, (List.forall_mem_cons.mpr ⟨Or.inl q1832, (List.forall_mem_cons.mpr ⟨Or.inl q1833, (List.forall_mem_cons.mpr ⟨Or.inl q1757, (List.forall_mem_cons.mpr ⟨Or.inr ⟨q209, rfl⟩, (List.forall_mem_cons.mpr ⟨Or.inl q1757, (List.forall_mem_cons.mpr ⟨Or.inl q1758, (List.forall_mem_cons.mpr ⟨Or.inl q1759, (List.forall_mem_cons.mpr ⟨Or.inl q1760, (List.forall_mem_cons.mpr ⟨Or.inr ⟨q211, rfl⟩, (List.forall_mem_cons.mpr ⟨Or.inl q1760, (List.forall_mem_cons.mpr ⟨Or.inl q1761, (List.forall_mem_cons.mpr ⟨Or.inl q1762, (List.forall_mem_cons.mpr ⟨Or.inl q229, (List.forall_mem_cons.mpr ⟨Or.inr ⟨q213, rfl⟩, (List.forall_mem_cons.mpr ⟨Or.inl q1830, (List.forall_mem_cons.mpr ⟨Or.inl q786, (List.forall_mem_cons.mpr ⟨Or.inr ⟨q787, rfl⟩, (List.forall_mem_cons.mpr ⟨Or.inl q788, (List.forall_mem_cons.mpr ⟨Or.inl q242, (List.forall_mem_cons.mpr ⟨Or.inl q789, (List.forall_mem_cons.mpr ⟨Or.inl q790, (List.forall_mem_cons.mpr ⟨Or.inl q791, (List.forall_mem_cons.mpr ⟨Or.inl q792, (List.forall_mem_cons.mpr ⟨Or.inl q227, (List.forall_mem_cons.mpr ⟨Or.inl q226, (List.forall_mem_cons.mpr ⟨Or.inl q793, (List.forall_mem_nil _)⟩)⟩)⟩)⟩)⟩)⟩)⟩)⟩)⟩)⟩)⟩)⟩)⟩)⟩)⟩)⟩)⟩)⟩)⟩)⟩)⟩)⟩)⟩)⟩)⟩)⟩)⟩)⟩)⟩)⟩)⟩)⟩)⟩)⟩)⟩)⟩)⟩)⟩)⟩)⟩)⟩)⟩)⟩)⟩)⟩)⟩)⟩)⟩)⟩)
theorem cv_X1_264_X1 : zCV "FranchiseLedger" 264 "FranchiseLedger" yX1_requireMonth cX1_requireMonth 1 (Option.none : Option Jvm.ClassFile.FieldType) 0 := ⟨q1836, q1838, qs41, q129, q1839, rfl, ⟨by decide +kernel, by decide +kernel, by decide +kernel⟩⟩
set_option maxHeartbeats 1000000 in
theorem ex_X1_114_116 : zEX "FranchiseLedger" 114 116 22 := by
  refine ⟨"java/lang/IllegalStateException", ["java/lang/RuntimeException", "java/lang/Exception"], _, rfl, by decide +kernel, by decide +kernel, by decide, q1802, q173, ?_, by decide +kernel⟩
  exact (List.forall_mem_cons.mpr ⟨Or.inl q134, (List.forall_mem_cons.mpr ⟨Or.inl q228, (List.forall_mem_cons.mpr ⟨Or.inl q237, (List.forall_mem_cons.mpr ⟨Or.inl q244, (List.forall_mem_cons.mpr ⟨Or.inl q247, (List.forall_mem_cons.mpr ⟨Or.inl q249, (List.forall_mem_cons.mpr ⟨Or.inl q229, (List.forall_mem_cons.mpr ⟨Or.inl q230, (List.forall_mem_cons.mpr ⟨Or.inl q182, (List.forall_mem_cons.mpr ⟨Or.inl q183, (List.forall_mem_cons.mpr ⟨Or.inl q231, (List.forall_mem_cons.mpr ⟨Or.inl q236, (List.forall_mem_cons.mpr ⟨Or.inl q245, (List.forall_mem_cons.mpr ⟨Or.inl q486, (List.forall_mem_cons.mpr ⟨Or.inl q218, (List.forall_mem_cons.mpr ⟨Or.inl q487, (List.forall_mem_cons.mpr ⟨Or.inl q220, (List.forall_mem_cons.mpr ⟨Or.inl q488, (List.forall_mem_cons.mpr ⟨Or.inl q222, (List.forall_mem_cons.mpr ⟨Or.inl q232, (List.forall_mem_cons.mpr ⟨Or.inl q234, (List.forall_mem_cons.mpr ⟨Or.inl q224, (List.forall_mem_cons.mpr ⟨Or.inl q1849, (List.forall_mem_cons.mpr ⟨Or.inl q1850, (List.forall_mem_cons.mpr ⟨Or.inl q1851, (List.forall_mem_cons.mpr ⟨Or.inl q1757, (List.forall_mem_cons.mpr ⟨Or.inr ⟨q209, rfl⟩, (List.forall_mem_cons.mpr ⟨Or.inl q1757, (List.forall_mem_cons.mpr ⟨Or.inl q1758, (List.forall_mem_cons.mpr ⟨Or.inl q1759, (List.forall_mem_cons.mpr ⟨Or.inl q1760, (List.forall_mem_cons.mpr ⟨Or.inr ⟨q211, rfl⟩, (List.forall_mem_cons.mpr ⟨Or.inl q1760, (List.forall_mem_cons.mpr ⟨Or.inl q1761, (List.forall_mem_cons.mpr ⟨Or.inl q1762, (List.forall_mem_cons.mpr ⟨Or.inl q229, (List.forall_mem_cons.mpr ⟨Or.inr ⟨q213, rfl⟩, (List.forall_mem_cons.mpr ⟨Or.inl q1848, (List.forall_mem_cons.mpr ⟨Or.inl q1840, (List.forall_mem_cons.mpr ⟨Or.inr ⟨q1841, rfl⟩, (List.forall_mem_cons.mpr ⟨Or.inl q1842, (List.forall_mem_cons.mpr ⟨Or.inl q241, (List.forall_mem_cons.mpr ⟨Or.inl q1843, (List.forall_mem_cons.mpr ⟨Or.inl q1844, (List.forall_mem_cons.mpr ⟨Or.inl q1845, (List.forall_mem_cons.mpr ⟨Or.inl q1846, (List.forall_mem_cons.mpr ⟨Or.inl q227, (List.forall_mem_cons.mpr ⟨Or.inl q226, (List.forall_mem_cons.mpr ⟨Or.inl q1847, (List.forall_mem_nil _)⟩)⟩)⟩)⟩)⟩)⟩)⟩)⟩)⟩)⟩)⟩)⟩)⟩)⟩)⟩)⟩)⟩)⟩)⟩)⟩)⟩)⟩)⟩)⟩)⟩)⟩)⟩)⟩)⟩)⟩)⟩)⟩)⟩)⟩)⟩)⟩)⟩)⟩)⟩)⟩)⟩)⟩)⟩)⟩)⟩)⟩)⟩)⟩)⟩)
theorem cv_X1_267_X14 : zCV "FranchiseLedger" 267 "FranchiseLedger$Outlet" yX14_isOpen cX14_isOpen 1 (Option.some Jvm.ClassFile.FieldType.boolean) 0 := ⟨q1854, q1714, q1715, q170, q1716, rfl, ⟨by decide +kernel, by decide +kernel, by decide +kernel⟩⟩
theorem fl_X1_272_X14 : zFL "FranchiseLedger" 272 13 2 := ⟨RX14, TX14, 3, "FranchiseLedger$Outlet", rfl, in_X14, by decide, Or.inr ⟨_, q1069⟩, Or.inl rfl⟩
theorem pl_X1_272_X14 : zPL "FranchiseLedger" 272 13 2 .long false := ⟨RX14, TX14, 3, "FranchiseLedger$Outlet", tyX14, rfl, in_X14, by decide, Or.inr ⟨rfl, _, q1069⟩, Or.inl rfl, tyX14_ok, nmX14, rfl, (fun h => by cases h), rfl⟩
theorem cv_X1_393_X15 : zCV "FranchiseLedger" 393 "FranchiseLedger$Posting" yX15_x cX15_x 1 (Option.some Jvm.ClassFile.FieldType.int) 0 := ⟨q1856, q1857, q1858, q171, q1859, rfl, ⟨by decide +kernel, by decide +kernel, by decide +kernel⟩⟩
theorem cv_X1_396_X15 : zCV "FranchiseLedger" 396 "FranchiseLedger$Posting" yX15_y cX15_y 1 (Option.some Jvm.ClassFile.FieldType.int) 0 := ⟨q1860, q1861, q1862, q171, q1863, rfl, ⟨by decide +kernel, by decide +kernel, by decide +kernel⟩⟩
theorem cv_X1_399_X1 : zCV "FranchiseLedger" 399 "FranchiseLedger" yX1_deliver cX1_deliver 8 (Option.some Jvm.ClassFile.FieldType.long) 4 := ⟨q1864, q1865, q1866, q129, q1867, rfl, ⟨by decide +kernel, by decide +kernel, by decide +kernel⟩⟩
theorem cv_X1_164 : zCS "FranchiseLedger" 164 yX1_isPlace cX1_isPlace 2 (Option.some Jvm.ClassFile.FieldType.boolean) 2 := ⟨q1868, q1869, q129, q1870, ⟨by decide +kernel, by decide +kernel, by decide +kernel⟩⟩
theorem fl_X1_171_X4 : zFL "FranchiseLedger" 171 4 2 := ⟨RX4, TX4, 7, "FranchiseLedger$Books", rfl, in_X4, by decide, Or.inr ⟨_, q638⟩, Or.inl rfl⟩
theorem fl_X1_175_X5 : zFL "FranchiseLedger" 175 5 0 := ⟨RX5, TX5, 3, "FranchiseLedger$Grid", rfl, in_X5, by decide, Or.inr ⟨_, q616⟩, Or.inl rfl⟩
theorem cv_X1_180 : zCS "FranchiseLedger" 180 yX1_cell cX1_cell 2 (Option.some Jvm.ClassFile.FieldType.int) 2 := ⟨q1873, q1707, q129, q1708, ⟨by decide +kernel, by decide +kernel, by decide +kernel⟩⟩
theorem fl_X1_125_X14 : zFL "FranchiseLedger" 125 13 1 := ⟨RX14, TX14, 3, "FranchiseLedger$Outlet", rfl, in_X14, by decide, Or.inr ⟨_, q1066⟩, Or.inl rfl⟩
theorem cv_X1_134_X1 : zCV "FranchiseLedger" 134 "FranchiseLedger" yX1_franchisee cX1_franchisee 2 (Option.some (Jvm.ClassFile.FieldType.object "FranchiseLedger$Franchisee")) 1 := ⟨q1874, q1876, qs42, q129, q1877, rfl, ⟨by decide +kernel, by decide +kernel, by decide +kernel⟩⟩
theorem cv_X1_88_X1 : zCV "FranchiseLedger" 88 "FranchiseLedger" yX1_isFranchisee cX1_isFranchisee 2 (Option.some Jvm.ClassFile.FieldType.boolean) 1 := ⟨q1878, q1880, qs43, q129, q1881, rfl, ⟨by decide +kernel, by decide +kernel, by decide +kernel⟩⟩
theorem cv_X1_208_X11 : zCV "FranchiseLedger" 208 "FranchiseLedger$Franchisee" yX11_isActive cX11_isActive 1 (Option.some Jvm.ClassFile.FieldType.boolean) 0 := ⟨q1882, q1883, q1884, q167, q1885, rfl, ⟨by decide +kernel, by decide +kernel, by decide +kernel⟩⟩
theorem fl_X1_276_X4 : zFL "FranchiseLedger" 276 4 3 := ⟨RX4, TX4, 7, "FranchiseLedger$Books", rfl, in_X4, by decide, Or.inr ⟨_, q640⟩, Or.inl rfl⟩
theorem cv_X1_403_X1 : zCV "FranchiseLedger" 403 "FranchiseLedger" yX1_pay cX1_pay 5 (Option.some Jvm.ClassFile.FieldType.long) 2 := ⟨q1886, q1887, q1888, q129, q1889, rfl, ⟨by decide +kernel, by decide +kernel, by decide +kernel⟩⟩
theorem cv_X1_311 : zCS "FranchiseLedger" 311 yX1_isAmount cX1_isAmount 2 (Option.some Jvm.ClassFile.FieldType.boolean) 1 := ⟨q1890, q1891, q129, q1892, ⟨by decide +kernel, by decide +kernel, by decide +kernel⟩⟩
theorem pl_X1_153_X11 : zPL "FranchiseLedger" 153 10 8 .long false := ⟨RX11, TX11, 11, "FranchiseLedger$Franchisee", tyX11, rfl, in_X11, by decide, Or.inr ⟨rfl, _, q929⟩, Or.inl rfl, tyX11_ok, nmX11, rfl, (fun h => by cases h), rfl⟩
theorem cv_X1_410_X1 : zCV "FranchiseLedger" 410 "FranchiseLedger" yX1_grant cX1_grant 5 (Option.some Jvm.ClassFile.FieldType.boolean) 2 := ⟨q1895, q1896, q1897, q129, q1898, rfl, ⟨by decide +kernel, by decide +kernel, by decide +kernel⟩⟩
theorem cv_X1_160_X11 : zCV "FranchiseLedger" 160 "FranchiseLedger$Franchisee" yX11_allowance cX11_allowance 1 (Option.some Jvm.ClassFile.FieldType.long) 0 := ⟨q1899, q1900, q1901, q167, q1902, rfl, ⟨by decide +kernel, by decide +kernel, by decide +kernel⟩⟩
theorem fl_X1_335_X11 : zFL "FranchiseLedger" 335 10 10 := ⟨RX11, TX11, 11, "FranchiseLedger$Franchisee", rfl, in_X11, by decide, Or.inr ⟨_, q934⟩, Or.inl rfl⟩
theorem pl_X1_335_X11 : zPL "FranchiseLedger" 335 10 10 .long false := ⟨RX11, TX11, 11, "FranchiseLedger$Franchisee", tyX11, rfl, in_X11, by decide, Or.inr ⟨rfl, _, q934⟩, Or.inl rfl, tyX11_ok, nmX11, rfl, (fun h => by cases h), rfl⟩
theorem fl_X1_332_X4 : zFL "FranchiseLedger" 332 4 4 := ⟨RX4, TX4, 7, "FranchiseLedger$Books", rfl, in_X4, by decide, Or.inr ⟨_, q642⟩, Or.inl rfl⟩
theorem cv_X1_414_X1 : zCV "FranchiseLedger" 414 "FranchiseLedger" yX1_campaign cX1_campaign 3 (Option.some Jvm.ClassFile.FieldType.boolean) 1 := ⟨q1904, q1905, q1906, q129, q1907, rfl, ⟨by decide +kernel, by decide +kernel, by decide +kernel⟩⟩
theorem cv_X1_419_X1 : zCV "FranchiseLedger" 419 "FranchiseLedger" yX1_closeMonth cX1_closeMonth 1 (Option.some Jvm.ClassFile.FieldType.int) 0 := ⟨q1917, q1918, q1919, q129, q1920, rfl, ⟨by decide +kernel, by decide +kernel, by decide +kernel⟩⟩
theorem cv_X1_293_X4 : zCV "FranchiseLedger" 293 "FranchiseLedger$Books" yX4_close cX4_close 5 (Option.none : Option Jvm.ClassFile.FieldType) 0 := ⟨q1921, q1922, q1923, q152, q1924, rfl, ⟨by decide +kernel, by decide +kernel, by decide +kernel⟩⟩
theorem fl_X4_186_X11 : zFL "FranchiseLedger$Books" 186 10 1 := ⟨RX11, TX11, 11, "FranchiseLedger$Franchisee", rfl, in_X11, by decide, Or.inr ⟨_, q907⟩, Or.inl rfl⟩
theorem cv_X4_189_X4 : zCV "FranchiseLedger$Books" 189 "FranchiseLedger$Books" yX4_statement cX4_statement 8 (Option.some (Jvm.ClassFile.FieldType.array Jvm.ClassFile.FieldType.long)) 2 := ⟨q1925, q1926, q1927, q152, q1928, rfl, ⟨by decide +kernel, by decide +kernel, by decide +kernel⟩⟩
theorem cv_X4_130_X11 : zCV "FranchiseLedger$Books" 130 "FranchiseLedger$Franchisee" yX11_isActive cX11_isActive 1 (Option.some Jvm.ClassFile.FieldType.boolean) 0 := ⟨q1929, q1883, q1884, q167, q1885, rfl, ⟨by decide +kernel, by decide +kernel, by decide +kernel⟩⟩
theorem cv_X4_134_X4 : zCV "FranchiseLedger$Books" 134 "FranchiseLedger$Books" yX4_sales cX4_sales 6 (Option.some Jvm.ClassFile.FieldType.long) 2 := ⟨q1930, q1931, q1932, q152, q1933, rfl, ⟨by decide +kernel, by decide +kernel, by decide +kernel⟩⟩
theorem cv_X4_137_X4 : zCV "FranchiseLedger$Books" 137 "FranchiseLedger$Books" yX4_planOf cX4_planOf 2 (Option.some (Jvm.ClassFile.FieldType.object "FranchiseLedger$Plan")) 1 := ⟨q1935, q1936, q1937, q152, q1938, rfl, ⟨by decide +kernel, by decide +kernel, by decide +kernel⟩⟩
theorem fl_X4_95_X1 : zFL "FranchiseLedger$Books" 95 0 0 := ⟨RX1, TX1, 10, "FranchiseLedger", rfl, in_X1, by decide, Or.inr ⟨_, q687⟩, Or.inl rfl⟩
theorem fl_X4_99_X2 : zFL "FranchiseLedger$Books" 99 2 0 := ⟨RX2, TX2, 10, "FranchiseLedger$Rules", rfl, in_X2, by decide, Or.inr ⟨_, q552⟩, Or.inl rfl⟩
theorem fl_X4_104_X11 : zFL "FranchiseLedger$Books" 104 10 3 := ⟨RX11, TX11, 11, "FranchiseLedger$Franchisee", rfl, in_X11, by decide, Or.inr ⟨_, q913⟩, Or.inl rfl⟩
theorem cv_X4_141_X9 : zCV "FranchiseLedger$Books" 141 "FranchiseLedger$Plan" yX9_royalty cX9_royalty 10 (Option.some Jvm.ClassFile.FieldType.long) 1 := ⟨q1940, q1941, q1942, q159, q1943, rfl, ⟨by decide +kernel, by decide +kernel, by decide +kernel⟩⟩
theorem cv_X9_25_J2 : zCF "FranchiseLedger$Plan" 25 "java/util/ArrayList" ⟨"java/util/List", "size", "()I"⟩ yJ2_size cJ2_size 1 (Option.some Jvm.ClassFile.FieldType.int) 0 := ⟨q1945, q733, q735, q133, q737, by decide +kernel, ⟨by decide +kernel, by decide +kernel, by decide +kernel⟩⟩
theorem cv_X9_57 : zCS "FranchiseLedger$Plan" 57 yX16_rounded cX16_rounded 2 (Option.some Jvm.ClassFile.FieldType.long) 1 := ⟨q1962, q1963, q174, q1964, ⟨by decide +kernel, by decide +kernel, by decide +kernel⟩⟩
theorem cv_X9_31_J2 : zCF "FranchiseLedger$Plan" 31 "java/util/ArrayList" ⟨"java/util/List", "get", "(I)Ljava/lang/Object;"⟩ yJ2_get cJ2_get 2 (Option.some (Jvm.ClassFile.FieldType.object "java/lang/Object")) 1 := ⟨q1947, q757, q759, q133, q761, by decide +kernel, ⟨by decide +kernel, by decide +kernel, by decide +kernel⟩⟩
theorem cv_X9_37_X10 : zCV "FranchiseLedger$Plan" 37 "FranchiseLedger$Tier" yX10_threshold cX10_threshold 1 (Option.some Jvm.ClassFile.FieldType.long) 0 := ⟨q1949, q1950, q1951, q160, q1952, rfl, ⟨by decide +kernel, by decide +kernel, by decide +kernel⟩⟩
theorem cv_X9_45 : zCS "FranchiseLedger$Plan" 45 yJ12_min_2 cJ12_min_2 4 (Option.some Jvm.ClassFile.FieldType.long) 2 := ⟨q1954, q1955, q143, q1956, ⟨by decide +kernel, by decide +kernel, by decide +kernel⟩⟩
theorem cv_X9_51 : zCS "FranchiseLedger$Plan" 51 yJ12_max_2 cJ12_max_2 4 (Option.some Jvm.ClassFile.FieldType.long) 2 := ⟨q1957, q825, q143, q826, ⟨by decide +kernel, by decide +kernel, by decide +kernel⟩⟩
theorem cv_X9_54_X10 : zCV "FranchiseLedger$Plan" 54 "FranchiseLedger$Tier" yX10_rate cX10_rate 1 (Option.some Jvm.ClassFile.FieldType.int) 0 := ⟨q1958, q1959, q1960, q160, q1961, rfl, ⟨by decide +kernel, by decide +kernel, by decide +kernel⟩⟩
theorem fl_X4_144_X9 : zFL "FranchiseLedger$Books" 144 8 0 := ⟨RX9, TX9, 2, "FranchiseLedger$Plan", rfl, in_X9, by decide, Or.inr ⟨_, q1632⟩, Or.inl rfl⟩
theorem cv_X16_7_X3 : zCF "FranchiseLedger$Rated" 7 "FranchiseLedger$Rate" ⟨"FranchiseLedger$Rated", "rate", "()I"⟩ yX3_rate cX3_rate 1 (Option.some Jvm.ClassFile.FieldType.int) 0 := ⟨q1973, q1977, q1979, q151, q1981, by decide +kernel, ⟨by decide +kernel, by decide +kernel, by decide +kernel⟩⟩
theorem cv_X16_13 : zCS "FranchiseLedger$Rated" 13 yX16_rounded cX16_rounded 2 (Option.some Jvm.ClassFile.FieldType.long) 1 := ⟨q1986, q1963, q174, q1964, ⟨by decide +kernel, by decide +kernel, by decide +kernel⟩⟩
theorem fl_X4_147_X11 : zFL "FranchiseLedger$Books" 147 10 8 := ⟨RX11, TX11, 11, "FranchiseLedger$Franchisee", rfl, in_X11, by decide, Or.inr ⟨_, q928⟩, Or.inl rfl⟩
theorem fl_X4_150_X2 : zFL "FranchiseLedger$Books" 150 2 3 := ⟨RX2, TX2, 10, "FranchiseLedger$Rules", rfl, in_X2, by decide, Or.inr ⟨_, q561⟩, Or.inl rfl⟩
theorem cv_X4_153_X4 : zCV "FranchiseLedger$Books" 153 "FranchiseLedger$Books" yX4_credit cX4_credit 3 (Option.some Jvm.ClassFile.FieldType.long) 2 := ⟨q1987, q1988, q1989, q152, q1990, rfl, ⟨by decide +kernel, by decide +kernel, by decide +kernel⟩⟩
theorem fl_X4_111_X2 : zFL "FranchiseLedger$Books" 111 2 5 := ⟨RX2, TX2, 10, "FranchiseLedger$Rules", rfl, in_X2, by decide, Or.inr ⟨_, q567⟩, Or.inl rfl⟩
theorem fl_X4_114_X2 : zFL "FranchiseLedger$Books" 114 2 2 := ⟨RX2, TX2, 10, "FranchiseLedger$Rules", rfl, in_X2, by decide, Or.inr ⟨_, q558⟩, Or.inl rfl⟩
theorem cv_X4_124 : zCS "FranchiseLedger$Books" 124 yJ12_min_2 cJ12_min_2 4 (Option.some Jvm.ClassFile.FieldType.long) 2 := ⟨q1991, q1955, q143, q1956, ⟨by decide +kernel, by decide +kernel, by decide +kernel⟩⟩
theorem fl_X4_197_X2 : zFL "FranchiseLedger$Books" 197 2 4 := ⟨RX2, TX2, 10, "FranchiseLedger$Rules", rfl, in_X2, by decide, Or.inr ⟨_, q565⟩, Or.inl rfl⟩
theorem cv_X4_193_X4 : zCV "FranchiseLedger$Books" 193 "FranchiseLedger$Books" yX4_book cX4_book 3 (Option.none : Option Jvm.ClassFile.FieldType) 2 := ⟨q1992, q1994, qs44, q152, q1995, rfl, ⟨by decide +kernel, by decide +kernel, by decide +kernel⟩⟩
theorem fl_X4_155_X11 : zFL "FranchiseLedger$Books" 155 10 7 := ⟨RX11, TX11, 11, "FranchiseLedger$Franchisee", rfl, in_X11, by decide, Or.inr ⟨_, q925⟩, Or.inl rfl⟩
theorem pl_X4_155_X11 : zPL "FranchiseLedger$Books" 155 10 7 .int false := ⟨RX11, TX11, 11, "FranchiseLedger$Franchisee", tyX11, rfl, in_X11, by decide, Or.inr ⟨rfl, _, q925⟩, Or.inl rfl, tyX11_ok, nmX11, rfl, (fun h => by cases h), rfl⟩
theorem pl_X4_147_X11 : zPL "FranchiseLedger$Books" 147 10 8 .long false := ⟨RX11, TX11, 11, "FranchiseLedger$Franchisee", tyX11, rfl, in_X11, by decide, Or.inr ⟨rfl, _, q928⟩, Or.inl rfl, tyX11_ok, nmX11, rfl, (fun h => by cases h), rfl⟩
theorem pl_X4_158_X11 : zPL "FranchiseLedger$Books" 158 10 9 .long false := ⟨RX11, TX11, 11, "FranchiseLedger$Franchisee", tyX11, rfl, in_X11, by decide, Or.inr ⟨rfl, _, q931⟩, Or.inl rfl, tyX11_ok, nmX11, rfl, (fun h => by cases h), rfl⟩
theorem cv_X4_203_X4 : zCV "FranchiseLedger$Books" 203 "FranchiseLedger$Books" yX4_endMonth cX4_endMonth 3 (Option.none : Option Jvm.ClassFile.FieldType) 0 := ⟨q2000, q2002, qs46, q152, q2003, rfl, ⟨by decide +kernel, by decide +kernel, by decide +kernel⟩⟩
theorem fl_X4_184_X11 : zFL "FranchiseLedger$Books" 184 10 2 := ⟨RX11, TX11, 11, "FranchiseLedger$Franchisee", rfl, in_X11, by decide, Or.inr ⟨_, q910⟩, Or.inl rfl⟩
theorem pl_X4_78_X14 : zPL "FranchiseLedger$Books" 78 13 2 .long false := ⟨RX14, TX14, 3, "FranchiseLedger$Outlet", tyX14, rfl, in_X14, by decide, Or.inr ⟨rfl, _, q1068⟩, Or.inl rfl, tyX14_ok, nmX14, rfl, (fun h => by cases h), rfl⟩
theorem cv_X4_200_X4 : zCV "FranchiseLedger$Books" 200 "FranchiseLedger$Books" yX4_transfer cX4_transfer 3 (Option.none : Option Jvm.ClassFile.FieldType) 1 := ⟨q1996, q1998, qs45, q152, q1999, rfl, ⟨by decide +kernel, by decide +kernel, by decide +kernel⟩⟩
theorem fl_X4_161_X11 : zFL "FranchiseLedger$Books" 161 10 0 := ⟨RX11, TX11, 11, "FranchiseLedger$Franchisee", rfl, in_X11, by decide, Or.inr ⟨_, q904⟩, Or.inl rfl⟩
theorem fl_X4_165_X12 : zFL "FranchiseLedger$Books" 165 11 0 := ⟨RX12, TX12, 7, "FranchiseLedger$Transfer", rfl, in_X12, by decide, Or.inr ⟨_, q874⟩, Or.inl rfl⟩
theorem fl_X4_170_X12 : zFL "FranchiseLedger$Books" 170 11 1 := ⟨RX12, TX12, 7, "FranchiseLedger$Transfer", rfl, in_X12, by decide, Or.inr ⟨_, q877⟩, Or.inl rfl⟩
theorem fl_X4_171_X2 : zFL "FranchiseLedger$Books" 171 2 7 := ⟨RX2, TX2, 10, "FranchiseLedger$Rules", rfl, in_X2, by decide, Or.inr ⟨_, q571⟩, Or.inl rfl⟩
theorem pl_X4_165_X12 : zPL "FranchiseLedger$Books" 165 11 0 .int false := ⟨RX12, TX12, 7, "FranchiseLedger$Transfer", tyX12, rfl, in_X12, by decide, Or.inr ⟨rfl, _, q874⟩, Or.inl rfl, tyX12_ok, nmX12, rfl, (fun h => by cases h), rfl⟩
theorem fl_X4_174_X12 : zFL "FranchiseLedger$Books" 174 11 2 := ⟨RX12, TX12, 7, "FranchiseLedger$Transfer", rfl, in_X12, by decide, Or.inr ⟨_, q880⟩, Or.inl rfl⟩
theorem fl_X4_177_X11 : zFL "FranchiseLedger$Books" 177 10 4 := ⟨RX11, TX11, 11, "FranchiseLedger$Franchisee", rfl, in_X11, by decide, Or.inr ⟨_, q916⟩, Or.inl rfl⟩
theorem pl_X4_177_X11 : zPL "FranchiseLedger$Books" 177 10 4 .int false := ⟨RX11, TX11, 11, "FranchiseLedger$Franchisee", tyX11, rfl, in_X11, by decide, Or.inr ⟨rfl, _, q916⟩, Or.inl rfl, tyX11_ok, nmX11, rfl, (fun h => by cases h), rfl⟩
theorem fl_X4_178_X11 : zFL "FranchiseLedger$Books" 178 10 6 := ⟨RX11, TX11, 11, "FranchiseLedger$Franchisee", rfl, in_X11, by decide, Or.inr ⟨_, q922⟩, Or.inl rfl⟩
theorem pl_X4_178_X11 : zPL "FranchiseLedger$Books" 178 10 6 .int false := ⟨RX11, TX11, 11, "FranchiseLedger$Franchisee", tyX11, rfl, in_X11, by decide, Or.inr ⟨rfl, _, q922⟩, Or.inl rfl, tyX11_ok, nmX11, rfl, (fun h => by cases h), rfl⟩
theorem fl_X4_181_X2 : zFL "FranchiseLedger$Books" 181 2 6 := ⟨RX2, TX2, 10, "FranchiseLedger$Rules", rfl, in_X2, by decide, Or.inr ⟨_, q569⟩, Or.inl rfl⟩
theorem cv_X1_417_X1 : zCV "FranchiseLedger" 417 "FranchiseLedger" yX1_vote cX1_vote 5 (Option.some Jvm.ClassFile.FieldType.int) 3 := ⟨q1908, q1909, q1910, q129, q1911, rfl, ⟨by decide +kernel, by decide +kernel, by decide +kernel⟩⟩
theorem fl_X1_343_X11 : zFL "FranchiseLedger" 343 10 0 := ⟨RX11, TX11, 11, "FranchiseLedger$Franchisee", rfl, in_X11, by decide, Or.inr ⟨_, q905⟩, Or.inl rfl⟩
theorem fl_X1_359_X12 : zFL "FranchiseLedger" 359 11 0 := ⟨RX12, TX12, 7, "FranchiseLedger$Transfer", rfl, in_X12, by decide, Or.inr ⟨_, q875⟩, Or.inl rfl⟩
theorem fl_X1_362_X12 : zFL "FranchiseLedger" 362 11 5 := ⟨RX12, TX12, 7, "FranchiseLedger$Transfer", rfl, in_X12, by decide, Or.inr ⟨_, q884⟩, Or.inl rfl⟩
theorem cv_X1_365_X12 : zCV "FranchiseLedger" 365 "FranchiseLedger$Transfer" yX12_vote cX12_vote 3 (Option.some Jvm.ClassFile.FieldType.int) 2 := ⟨q1913, q1914, q1915, q168, q1916, rfl, ⟨by decide +kernel, by decide +kernel, by decide +kernel⟩⟩
theorem cv_X1_183_X5 : zCV "FranchiseLedger" 183 "FranchiseLedger$Grid" yX5_area cX5_area 4 (Option.some Jvm.ClassFile.FieldType.int) 1 := ⟨q2019, q2020, q2021, q153, q2022, rfl, ⟨by decide +kernel, by decide +kernel, by decide +kernel⟩⟩
theorem cv_X1_186_X5 : zCV "FranchiseLedger" 186 "FranchiseLedger$Grid" yX5_perimeter cX5_perimeter 6 (Option.some Jvm.ClassFile.FieldType.int) 1 := ⟨q2030, q2031, q2032, q153, q2033, rfl, ⟨by decide +kernel, by decide +kernel, by decide +kernel⟩⟩
theorem cv_X5_46 : zCS "FranchiseLedger$Grid" 46 yX5_neighbour cX5_neighbour 4 (Option.some Jvm.ClassFile.FieldType.int) 2 := ⟨q2034, q2035, q153, q2036, ⟨by decide +kernel, by decide +kernel, by decide +kernel⟩⟩
theorem cv_X5_29 : zCSN "FranchiseLedger$Grid" 29 yX1_column cX1_column 1 (Option.some Jvm.ClassFile.FieldType.int) 1 := ⟨_, q2037, q1696, q129, q1697, ⟨by decide +kernel, by decide +kernel, by decide +kernel⟩⟩
theorem cv_X5_33 : zCSN "FranchiseLedger$Grid" 33 yX1_row cX1_row 1 (Option.some Jvm.ClassFile.FieldType.int) 1 := ⟨_, q2038, q1700, q129, q1701, ⟨by decide +kernel, by decide +kernel, by decide +kernel⟩⟩
theorem cv_X5_38 : zCSN "FranchiseLedger$Grid" 38 yX1_inRange cX1_inRange 6 (Option.some Jvm.ClassFile.FieldType.boolean) 3 := ⟨_, q2040, q849, q129, q850, ⟨by decide +kernel, by decide +kernel, by decide +kernel⟩⟩
theorem cv_X5_42 : zCSN "FranchiseLedger$Grid" 42 yX1_cell cX1_cell 2 (Option.some Jvm.ClassFile.FieldType.int) 2 := ⟨_, q2041, q1707, q129, q1708, ⟨by decide +kernel, by decide +kernel, by decide +kernel⟩⟩
theorem cv_X1_189_X5 : zCV "FranchiseLedger" 189 "FranchiseLedger$Grid" yX5_border cX5_border 7 (Option.some Jvm.ClassFile.FieldType.int) 2 := ⟨q2049, q2050, q2051, q153, q2052, rfl, ⟨by decide +kernel, by decide +kernel, by decide +kernel⟩⟩
theorem cv_X1_192_X5 : zCV "FranchiseLedger" 192 "FranchiseLedger$Grid" yX5_isConnected cX5_isConnected 7 (Option.some Jvm.ClassFile.FieldType.boolean) 1 := ⟨q2060, q2061, q2062, q153, q2063, rfl, ⟨by decide +kernel, by decide +kernel, by decide +kernel⟩⟩
theorem cv_X5_49_X5 : zCV "FranchiseLedger$Grid" 49 "FranchiseLedger$Grid" yX5_first cX5_first 3 (Option.some Jvm.ClassFile.FieldType.int) 1 := ⟨q2064, q2066, qs47, q153, q2067, rfl, ⟨by decide +kernel, by decide +kernel, by decide +kernel⟩⟩
theorem cv_X5_52_X5 : zCV "FranchiseLedger$Grid" 52 "FranchiseLedger$Grid" yX5_area cX5_area 4 (Option.some Jvm.ClassFile.FieldType.int) 1 := ⟨q2068, q2020, q2021, q153, q2022, rfl, ⟨by decide +kernel, by decide +kernel, by decide +kernel⟩⟩
theorem cv_X1_195_X5 : zCV "FranchiseLedger" 195 "FranchiseLedger$Grid" yX5_distanceTo cX5_distanceTo 5 (Option.some Jvm.ClassFile.FieldType.int) 2 := ⟨q2076, q2077, q2078, q153, q2079, rfl, ⟨by decide +kernel, by decide +kernel, by decide +kernel⟩⟩
theorem cv_X5_55 : zCSN "FranchiseLedger$Grid" 55 yX1_distance_2 cX1_distance_2 2 (Option.some Jvm.ClassFile.FieldType.int) 2 := ⟨_, q2080, q2081, q129, q2082, ⟨by decide +kernel, by decide +kernel, by decide +kernel⟩⟩
theorem cv_X1_12 : zCS "FranchiseLedger" 12 yX1_column cX1_column 1 (Option.some Jvm.ClassFile.FieldType.int) 1 := ⟨q2083, q1696, q129, q1697, ⟨by decide +kernel, by decide +kernel, by decide +kernel⟩⟩
theorem cv_X1_16 : zCS "FranchiseLedger" 16 yJ12_abs cJ12_abs 1 (Option.some Jvm.ClassFile.FieldType.int) 1 := ⟨q2084, q2085, q143, q2086, ⟨by decide +kernel, by decide +kernel, by decide +kernel⟩⟩
theorem cv_X1_21 : zCS "FranchiseLedger" 21 yX1_row cX1_row 1 (Option.some Jvm.ClassFile.FieldType.int) 1 := ⟨q2087, q1700, q129, q1701, ⟨by decide +kernel, by decide +kernel, by decide +kernel⟩⟩
theorem cv_X5_58 : zCS "FranchiseLedger$Grid" 58 yJ12_min cJ12_min 2 (Option.some Jvm.ClassFile.FieldType.int) 2 := ⟨q2088, q325, q143, q326, ⟨by decide +kernel, by decide +kernel, by decide +kernel⟩⟩
theorem cv_X1_218 : zCIN "FranchiseLedger" 218 yX13_init cX13_init 5 4 := ⟨_, q2099, q1671, q169, q1672, rfl, ⟨by decide +kernel, by decide +kernel, by decide +kernel⟩⟩
theorem cv_X1_221_X1 : zCV "FranchiseLedger" 221 "FranchiseLedger" yX1_moveCells cX1_moveCells 7 (Option.some Jvm.ClassFile.FieldType.int) 3 := ⟨q2100, q2102, qs48, q129, q2103, rfl, ⟨by decide +kernel, by decide +kernel, by decide +kernel⟩⟩
theorem cv_X1_198_X13 : zCV "FranchiseLedger" 198 "FranchiseLedger$Area" yX13_contains cX13_contains 2 (Option.some Jvm.ClassFile.FieldType.boolean) 1 := ⟨q2104, q1692, q1693, q169, q1694, rfl, ⟨by decide +kernel, by decide +kernel, by decide +kernel⟩⟩
theorem cv_X1_203_X4 : zCV "FranchiseLedger" 203 "FranchiseLedger$Books" yX4_hasOutlet cX4_hasOutlet 3 (Option.some Jvm.ClassFile.FieldType.boolean) 1 := ⟨q2105, q1710, q1711, q152, q1712, rfl, ⟨by decide +kernel, by decide +kernel, by decide +kernel⟩⟩
theorem fl_X1_128_X14 : zFL "FranchiseLedger" 128 13 0 := ⟨RX14, TX14, 3, "FranchiseLedger$Outlet", rfl, in_X14, by decide, Or.inr ⟨_, q1063⟩, Or.inl rfl⟩
theorem cv_X1_131 : zCS "FranchiseLedger" 131 yX1_told cX1_told 1 (Option.some Jvm.ClassFile.FieldType.int) 1 := ⟨q2120, q2121, q129, q2122, ⟨by decide +kernel, by decide +kernel, by decide +kernel⟩⟩
theorem cv_X1_225 : zCI "FranchiseLedger" 225 yX14_init_2 cX14_init_2 3 2 := ⟨q2130, q1719, q170, q1720, rfl, ⟨by decide +kernel, by decide +kernel, by decide +kernel⟩⟩
theorem cv_X1_228_J2 : zCF "FranchiseLedger" 228 "java/util/ArrayList" ⟨"java/util/List", "add", "(Ljava/lang/Object;)Z"⟩ yJ2_add cJ2_add 2 (Option.some Jvm.ClassFile.FieldType.boolean) 1 := ⟨q2132, q967, q969, q133, q971, by decide +kernel, ⟨by decide +kernel, by decide +kernel, by decide +kernel⟩⟩
theorem cv_X1_232_X4 : zCV "FranchiseLedger" 232 "FranchiseLedger$Books" yX4_nearest cX4_nearest 6 (Option.some Jvm.ClassFile.FieldType.int) 2 := ⟨q2140, q2141, q2142, q152, q2143, rfl, ⟨by decide +kernel, by decide +kernel, by decide +kernel⟩⟩
theorem cv_X4_212 : zCSN "FranchiseLedger$Books" 212 yX1_distance_2 cX1_distance_2 2 (Option.some Jvm.ClassFile.FieldType.int) 2 := ⟨_, q2144, q2081, q129, q2082, ⟨by decide +kernel, by decide +kernel, by decide +kernel⟩⟩
theorem cv_X4_216 : zCS "FranchiseLedger$Books" 216 yJ12_min cJ12_min 2 (Option.some Jvm.ClassFile.FieldType.int) 2 := ⟨q2145, q325, q143, q326, ⟨by decide +kernel, by decide +kernel, by decide +kernel⟩⟩
theorem cv_X1_237_X1 : zCV "FranchiseLedger" 237 "FranchiseLedger" yX1_area cX1_area 2 (Option.some Jvm.ClassFile.FieldType.int) 1 := ⟨q2168, q2016, q2017, q129, q2018, rfl, ⟨by decide +kernel, by decide +kernel, by decide +kernel⟩⟩
theorem cv_X1_238_X1 : zCV "FranchiseLedger" 238 "FranchiseLedger" yX1_difference cX1_difference 6 (Option.some Jvm.ClassFile.FieldType.int) 3 := ⟨q2169, q2171, qs49, q129, q2172, rfl, ⟨by decide +kernel, by decide +kernel, by decide +kernel⟩⟩
theorem cv_X1_242_X1 : zCV "FranchiseLedger" 242 "FranchiseLedger" yX1_isPlan cX1_isPlan 2 (Option.some Jvm.ClassFile.FieldType.boolean) 1 := ⟨q2180, q2182, qs50, q129, q2183, rfl, ⟨by decide +kernel, by decide +kernel, by decide +kernel⟩⟩
theorem cv_X1_247_X9 : zCV "FranchiseLedger" 247 "FranchiseLedger$Plan" yX9_royalty cX9_royalty 10 (Option.some Jvm.ClassFile.FieldType.long) 1 := ⟨q2185, q1941, q1942, q159, q1943, rfl, ⟨by decide +kernel, by decide +kernel, by decide +kernel⟩⟩
theorem fl_X1_138_X11 : zFL "FranchiseLedger" 138 10 3 := ⟨RX11, TX11, 11, "FranchiseLedger$Franchisee", rfl, in_X11, by decide, Or.inr ⟨_, q914⟩, Or.inl rfl⟩
theorem pl_X1_138_X11 : zPL "FranchiseLedger" 138 10 3 .int false := ⟨RX11, TX11, 11, "FranchiseLedger$Franchisee", tyX11, rfl, in_X11, by decide, Or.inr ⟨rfl, _, q914⟩, Or.inl rfl, tyX11_ok, nmX11, rfl, (fun h => by cases h), rfl⟩
theorem cv_X1_254_X4 : zCV "FranchiseLedger" 254 "FranchiseLedger$Books" yX4_sales cX4_sales 6 (Option.some Jvm.ClassFile.FieldType.long) 2 := ⟨q2207, q1931, q1932, q152, q1933, rfl, ⟨by decide +kernel, by decide +kernel, by decide +kernel⟩⟩
theorem cv_X1_258 : zCS "FranchiseLedger" 258 yX1_cheapest cX1_cheapest 5 (Option.some Jvm.ClassFile.FieldType.int) 2 := ⟨q2208, q2209, q129, q2210, ⟨by decide +kernel, by decide +kernel, by decide +kernel⟩⟩
theorem cv_X1_251_X9 : zCV "FranchiseLedger" 251 "FranchiseLedger$Plan" yX9_cost cX9_cost 3 (Option.some Jvm.ClassFile.FieldType.long) 1 := ⟨q2211, q2212, q2213, q159, q2214, rfl, ⟨by decide +kernel, by decide +kernel, by decide +kernel⟩⟩
theorem cv_X9_63_X9 : zCV "FranchiseLedger$Plan" 63 "FranchiseLedger$Plan" yX9_royalty cX9_royalty 10 (Option.some Jvm.ClassFile.FieldType.long) 1 := ⟨q2215, q1941, q1942, q159, q1943, rfl, ⟨by decide +kernel, by decide +kernel, by decide +kernel⟩⟩
theorem cv_X1_280_X1 : zCV "FranchiseLedger" 280 "FranchiseLedger" yX1_isClosed cX1_isClosed 2 (Option.some Jvm.ClassFile.FieldType.boolean) 1 := ⟨q2239, q2241, qs51, q129, q2242, rfl, ⟨by decide +kernel, by decide +kernel, by decide +kernel⟩⟩
theorem fl_X1_283_X11 : zFL "FranchiseLedger" 283 10 2 := ⟨RX11, TX11, 11, "FranchiseLedger$Franchisee", rfl, in_X11, by decide, Or.inr ⟨_, q911⟩, Or.inl rfl⟩
theorem cv_X1_290_X4 : zCV "FranchiseLedger" 290 "FranchiseLedger$Books" yX4_credit cX4_credit 3 (Option.some Jvm.ClassFile.FieldType.long) 2 := ⟨q2250, q1988, q1989, q152, q1990, rfl, ⟨by decide +kernel, by decide +kernel, by decide +kernel⟩⟩
theorem fl_X1_298_X11 : zFL "FranchiseLedger" 298 10 1 := ⟨RX11, TX11, 11, "FranchiseLedger$Franchisee", rfl, in_X11, by decide, Or.inr ⟨_, q908⟩, Or.inl rfl⟩
theorem cv_X1_303_X4 : zCV "FranchiseLedger" 303 "FranchiseLedger$Books" yX4_statement cX4_statement 8 (Option.some (Jvm.ClassFile.FieldType.array Jvm.ClassFile.FieldType.long)) 2 := ⟨q2271, q1926, q1927, q152, q1928, rfl, ⟨by decide +kernel, by decide +kernel, by decide +kernel⟩⟩
theorem fl_X1_150_X11 : zFL "FranchiseLedger" 150 10 7 := ⟨RX11, TX11, 11, "FranchiseLedger$Franchisee", rfl, in_X11, by decide, Or.inr ⟨_, q926⟩, Or.inl rfl⟩
theorem fl_X1_315_X2 : zFL "FranchiseLedger" 315 2 3 := ⟨RX2, TX2, 10, "FranchiseLedger$Rules", rfl, in_X2, by decide, Or.inr ⟨_, q563⟩, Or.inl rfl⟩
theorem cv_X1_324_X4 : zCV "FranchiseLedger" 324 "FranchiseLedger$Books" yX4_terminate cX4_terminate 4 (Option.none : Option Jvm.ClassFile.FieldType) 1 := ⟨q2304, q2305, q2306, q152, q2307, rfl, ⟨by decide +kernel, by decide +kernel, by decide +kernel⟩⟩
theorem fl_X4_218_X11 : zFL "FranchiseLedger$Books" 218 10 5 := ⟨RX11, TX11, 11, "FranchiseLedger$Franchisee", rfl, in_X11, by decide, Or.inr ⟨_, q919⟩, Or.inl rfl⟩
theorem pl_X4_218_X11 : zPL "FranchiseLedger$Books" 218 10 5 .int false := ⟨RX11, TX11, 11, "FranchiseLedger$Franchisee", tyX11, rfl, in_X11, by decide, Or.inr ⟨rfl, _, q919⟩, Or.inl rfl, tyX11_ok, nmX11, rfl, (fun h => by cases h), rfl⟩
theorem cv_X4_221_X12 : zCV "FranchiseLedger$Books" 221 "FranchiseLedger$Transfer" yX12_isOpen cX12_isOpen 1 (Option.some Jvm.ClassFile.FieldType.boolean) 0 := ⟨q2308, q2309, q2310, q168, q2311, rfl, ⟨by decide +kernel, by decide +kernel, by decide +kernel⟩⟩
theorem pl_X4_75_X14 : zPL "FranchiseLedger$Books" 75 13 1 .int false := ⟨RX14, TX14, 3, "FranchiseLedger$Outlet", tyX14, rfl, in_X14, by decide, Or.inr ⟨rfl, _, q1065⟩, Or.inl rfl, tyX14_ok, nmX14, rfl, (fun h => by cases h), rfl⟩
theorem fl_X4_222_X5 : zFL "FranchiseLedger$Books" 222 5 0 := ⟨RX5, TX5, 3, "FranchiseLedger$Grid", rfl, in_X5, by decide, Or.inr ⟨_, q614⟩, Or.inl rfl⟩
theorem fl_X1_141_X11 : zFL "FranchiseLedger" 141 10 5 := ⟨RX11, TX11, 11, "FranchiseLedger$Franchisee", rfl, in_X11, by decide, Or.inr ⟨_, q920⟩, Or.inl rfl⟩
theorem fl_X1_157_X11 : zFL "FranchiseLedger" 157 10 9 := ⟨RX11, TX11, 11, "FranchiseLedger$Franchisee", rfl, in_X11, by decide, Or.inr ⟨_, q932⟩, Or.inl rfl⟩
theorem cv_X1_338_X4 : zCV "FranchiseLedger" 338 "FranchiseLedger$Books" yX4_share cX4_share 12 (Option.some Jvm.ClassFile.FieldType.long) 1 := ⟨q2356, q2357, q2358, q152, q2359, rfl, ⟨by decide +kernel, by decide +kernel, by decide +kernel⟩⟩
theorem cv_X4_226_X4 : zCV "FranchiseLedger$Books" 226 "FranchiseLedger$Books" yX4_shareOf cX4_shareOf 7 (Option.some Jvm.ClassFile.FieldType.long) 3 := ⟨q2360, q2362, qs52, q152, q2363, rfl, ⟨by decide +kernel, by decide +kernel, by decide +kernel⟩⟩
theorem cv_X1_347_X12 : zCV "FranchiseLedger" 347 "FranchiseLedger$Transfer" yX12_isOpen cX12_isOpen 1 (Option.some Jvm.ClassFile.FieldType.boolean) 0 := ⟨q2372, q2309, q2310, q168, q2311, rfl, ⟨by decide +kernel, by decide +kernel, by decide +kernel⟩⟩
theorem fl_X1_350_X2 : zFL "FranchiseLedger" 350 2 8 := ⟨RX2, TX2, 10, "FranchiseLedger$Rules", rfl, in_X2, by decide, Or.inr ⟨_, q575⟩, Or.inl rfl⟩
theorem cv_X1_353_X12 : zCV "FranchiseLedger" 353 "FranchiseLedger$Transfer" yX12_request cX12_request 5 (Option.none : Option Jvm.ClassFile.FieldType) 3 := ⟨q2373, q2374, q2375, q168, q2376, rfl, ⟨by decide +kernel, by decide +kernel, by decide +kernel⟩⟩
theorem fl_X1_369_X12 : zFL "FranchiseLedger" 369 11 1 := ⟨RX12, TX12, 7, "FranchiseLedger$Transfer", rfl, in_X12, by decide, Or.inr ⟨_, q878⟩, Or.inl rfl⟩
theorem fl_X1_370_X2 : zFL "FranchiseLedger" 370 2 7 := ⟨RX2, TX2, 10, "FranchiseLedger$Rules", rfl, in_X2, by decide, Or.inr ⟨_, q573⟩, Or.inl rfl⟩
theorem pl_X1_359_X12 : zPL "FranchiseLedger" 359 11 0 .int false := ⟨RX12, TX12, 7, "FranchiseLedger$Transfer", tyX12, rfl, in_X12, by decide, Or.inr ⟨rfl, _, q875⟩, Or.inl rfl, tyX12_ok, nmX12, rfl, (fun h => by cases h), rfl⟩
theorem pl_X1_141_X11 : zPL "FranchiseLedger" 141 10 5 .int false := ⟨RX11, TX11, 11, "FranchiseLedger$Franchisee", tyX11, rfl, in_X11, by decide, Or.inr ⟨rfl, _, q920⟩, Or.inl rfl, tyX11_ok, nmX11, rfl, (fun h => by cases h), rfl⟩
theorem fl_X1_373_X12 : zFL "FranchiseLedger" 373 11 6 := ⟨RX12, TX12, 7, "FranchiseLedger$Transfer", rfl, in_X12, by decide, Or.inr ⟨_, q886⟩, Or.inl rfl⟩
theorem cv_X1_376 : zCS "FranchiseLedger" 376 yJ12_max cJ12_max 2 (Option.some Jvm.ClassFile.FieldType.int) 2 := ⟨q2409, q307, q143, q308, ⟨by decide +kernel, by decide +kernel, by decide +kernel⟩⟩
theorem fl_X1_144_X11 : zFL "FranchiseLedger" 144 10 6 := ⟨RX11, TX11, 11, "FranchiseLedger$Franchisee", rfl, in_X11, by decide, Or.inr ⟨_, q923⟩, Or.inl rfl⟩
theorem fl_X1_147_X11 : zFL "FranchiseLedger" 147 10 4 := ⟨RX11, TX11, 11, "FranchiseLedger$Franchisee", rfl, in_X11, by decide, Or.inr ⟨_, q917⟩, Or.inl rfl⟩
theorem cv_X1_472_J8 : zCV "FranchiseLedger" 472 "java/lang/StringBuilder" yJ8_setLength cJ8_setLength 2 (Option.none : Option Jvm.ClassFile.FieldType) 1 := ⟨q2431, q2432, q2433, q139, q2434, rfl, ⟨by decide +kernel, by decide +kernel, by decide +kernel⟩⟩
theorem cv_J8_333 : zCSU "java/lang/StringBuilder" 333 yJ7_setLength cJ7_setLength 2 (Option.none : Option Jvm.ClassFile.FieldType) 1 := ⟨q2435, q3249, q281, q2436, q138, q2437, ⟨by decide +kernel, by decide +kernel⟩⟩
theorem fl_J7_73_J8 : zFL "java/lang/AbstractStringBuilder" 73 18 2 := ⟨RJ8, TJ8, 4, "java/lang/AbstractStringBuilder", rfl, in_J8, by decide, Or.inl q270, Or.inl rfl⟩
theorem pl_J7_73_J8 : zPL "java/lang/AbstractStringBuilder" 73 18 2 .boolean false := ⟨RJ8, TJ8, 4, "java/lang/AbstractStringBuilder", tyJ8, rfl, in_J8, by decide, Or.inl q270, Or.inl rfl, tyJ8_ok, nmJ8, rfl, (fun h => by cases h), rfl⟩
theorem cv_J7_137 : zCS "java/lang/AbstractStringBuilder" 137 yJ10_fillNull cJ10_fillNull 3 (Option.none : Option Jvm.ClassFile.FieldType) 3 := ⟨q2479, q2480, q141, q2481, ⟨by decide +kernel, by decide +kernel, by decide +kernel⟩⟩
theorem cv_J10_380 : zCS "java/lang/StringUTF16" 380 yJ13_fill cJ13_fill 5 (Option.none : Option Jvm.ClassFile.FieldType) 4 := ⟨q2482, q2461, q144, q2462, ⟨by decide +kernel, by decide +kernel, by decide +kernel⟩⟩
theorem cv_J13_13 : zCS "java/util/Arrays" 13 yJ13_rangeCheck cJ13_rangeCheck 3 (Option.none : Option Jvm.ClassFile.FieldType) 3 := ⟨q2463, q2464, q144, q2465, ⟨by decide +kernel, by decide +kernel, by decide +kernel⟩⟩
theorem cv_J7_133 : zCS "java/lang/AbstractStringBuilder" 133 yJ15_fillNull cJ15_fillNull 3 (Option.none : Option Jvm.ClassFile.FieldType) 3 := ⟨q2457, q2458, q147, q2459, ⟨by decide +kernel, by decide +kernel, by decide +kernel⟩⟩
theorem cv_J15_236 : zCS "java/lang/StringLatin1" 236 yJ13_fill cJ13_fill 5 (Option.none : Option Jvm.ClassFile.FieldType) 4 := ⟨q2460, q2461, q144, q2462, ⟨by decide +kernel, by decide +kernel, by decide +kernel⟩⟩
theorem cv_X1_475 : zCS "FranchiseLedger" 475 yX1_nameOf cX1_nameOf 1 (Option.some (Jvm.ClassFile.FieldType.object "java/lang/String")) 1 := ⟨q2483, q2484, q129, q2485, ⟨by decide +kernel, by decide +kernel, by decide +kernel⟩⟩
theorem cv_X1_479_X1 : zCV "FranchiseLedger" 479 "FranchiseLedger" yX1_format cX1_format 6 (Option.none : Option Jvm.ClassFile.FieldType) 2 := ⟨q2493, q2495, qs53, q129, q2496, rfl, ⟨by decide +kernel, by decide +kernel, by decide +kernel⟩⟩
theorem cv_X1_449_J8 : zCV "FranchiseLedger" 449 "java/lang/StringBuilder" yJ8_append cJ8_append 2 (Option.some (Jvm.ClassFile.FieldType.object "java/lang/StringBuilder")) 1 := ⟨q2497, q285, q286, q139, q287, rfl, ⟨by decide +kernel, by decide +kernel, by decide +kernel⟩⟩
theorem cv_J8_29 : zCSU "java/lang/StringBuilder" 29 yJ7_append cJ7_append 3 (Option.some (Jvm.ClassFile.FieldType.object "java/lang/AbstractStringBuilder")) 1 := ⟨q288, q3237, q281, q289, q138, q290, ⟨by decide +kernel, by decide +kernel⟩⟩
theorem cv_J7_32_J9 : zCV "java/lang/AbstractStringBuilder" 32 "java/lang/String" yJ9_length cJ9_length 1 (Option.some Jvm.ClassFile.FieldType.int) 0 := ⟨q361, q362, q363, q140, q364, rfl, ⟨by decide +kernel, by decide +kernel, by decide +kernel⟩⟩
theorem cv_J7_208_J8 : zCO "java/lang/AbstractStringBuilder" 208 "java/lang/StringBuilder" "java/lang/AbstractStringBuilder" ⟨"java/lang/AbstractStringBuilder", "putStringAt", "(ILjava/lang/String;)V"⟩ yJ7_putStringAt cJ7_putStringAt 3 (Option.none : Option Jvm.ClassFile.FieldType) 2 := ⟨q370, q3241, Or.inr ⟨rfl, by decide +kernel⟩, q372, q138, q373, Or.inl ⟨_, _, _, q372, q373⟩, ⟨by decide +kernel, by decide +kernel, by decide +kernel⟩⟩
theorem cv_J7_397_J8 : zCO "java/lang/AbstractStringBuilder" 397 "java/lang/StringBuilder" "java/lang/AbstractStringBuilder" ⟨"java/lang/AbstractStringBuilder", "inflateIfNeededFor", "(Ljava/lang/String;)V"⟩ yJ7_inflateIfNeededFor cJ7_inflateIfNeededFor 2 (Option.none : Option Jvm.ClassFile.FieldType) 1 := ⟨q374, q3242, Or.inr ⟨rfl, by decide +kernel⟩, q376, q138, q377, Or.inl ⟨_, _, _, q376, q377⟩, ⟨by decide +kernel, by decide +kernel, by decide +kernel⟩⟩
theorem cv_J7_40_J9 : zCV "java/lang/AbstractStringBuilder" 40 "java/lang/String" yJ9_coder cJ9_coder 1 (Option.some Jvm.ClassFile.FieldType.byte) 0 := ⟨q378, q366, q367, q140, q368, rfl, ⟨by decide +kernel, by decide +kernel, by decide +kernel⟩⟩
theorem cv_J7_399_J9 : zCV "java/lang/AbstractStringBuilder" 399 "java/lang/String" yJ9_getBytes cJ9_getBytes 4 (Option.none : Option Jvm.ClassFile.FieldType) 3 := ⟨q398, q399, q400, q140, q401, rfl, ⟨by decide +kernel, by decide +kernel, by decide +kernel⟩⟩
theorem cv_J9_106 : zCS "java/lang/String" 106 yJ15_inflate cJ15_inflate 5 (Option.none : Option Jvm.ClassFile.FieldType) 5 := ⟨q403, q384, q147, q385, ⟨by decide +kernel, by decide +kernel, by decide +kernel⟩⟩
theorem cv_J15_240 : zCS "java/lang/StringLatin1" 240 yJ10_inflate cJ10_inflate 6 (Option.none : Option Jvm.ClassFile.FieldType) 5 := ⟨q386, q387, q141, q388, ⟨by decide +kernel, by decide +kernel, by decide +kernel⟩⟩
theorem cv_X1_452 : zCS "FranchiseLedger" 452 yJ12_abs_2 cJ12_abs_2 2 (Option.some Jvm.ClassFile.FieldType.long) 1 := ⟨q2498, q2499, q143, q2500, ⟨by decide +kernel, by decide +kernel, by decide +kernel⟩⟩
theorem cv_X1_456_J8 : zCV "FranchiseLedger" 456 "java/lang/StringBuilder" yJ8_append_4 cJ8_append_4 3 (Option.some (Jvm.ClassFile.FieldType.object "java/lang/StringBuilder")) 1 := ⟨q2502, q2503, q2504, q139, q2505, rfl, ⟨by decide +kernel, by decide +kernel, by decide +kernel⟩⟩
theorem cv_J8_56 : zCSU "java/lang/StringBuilder" 56 yJ7_append_4 cJ7_append_4 5 (Option.some (Jvm.ClassFile.FieldType.object "java/lang/AbstractStringBuilder")) 1 := ⟨q2506, q3250, q281, q2507, q138, q2508, ⟨by decide +kernel, by decide +kernel⟩⟩
theorem cv_J7_254 : zCS "java/lang/AbstractStringBuilder" 254 yJ24_stringSize cJ24_stringSize 6 (Option.some Jvm.ClassFile.FieldType.int) 1 := ⟨q2509, q2510, q166, q2511, ⟨by decide +kernel, by decide +kernel, by decide +kernel⟩⟩
theorem cv_J7_262 : zCS "java/lang/AbstractStringBuilder" 262 yJ10_getChars_3 cJ10_getChars_3 6 (Option.some Jvm.ClassFile.FieldType.int) 4 := ⟨q2521, q2522, q141, q2523, ⟨by decide +kernel, by decide +kernel, by decide +kernel⟩⟩
theorem cv_J10_96 : zCS "java/lang/StringUTF16" 96 yJ10_checkBoundsBeginEnd cJ10_checkBoundsBeginEnd 3 (Option.none : Option Jvm.ClassFile.FieldType) 3 := ⟨q338, q339, q141, q340, ⟨by decide +kernel, by decide +kernel, by decide +kernel⟩⟩
theorem cv_J10_241 : zCS "java/lang/StringUTF16" 241 yJ9_checkBoundsBeginEnd cJ9_checkBoundsBeginEnd 3 (Option.none : Option Jvm.ClassFile.FieldType) 3 := ⟨q344, q345, q140, q346, ⟨by decide +kernel, by decide +kernel, by decide +kernel⟩⟩
theorem cv_J9_1062 : zCS "java/lang/String" 1062 yJ14_checkFromToIndex cJ14_checkFromToIndex 4 (Option.some Jvm.ClassFile.FieldType.int) 4 := ⟨q349, q350, q146, q351, ⟨by decide +kernel, by decide +kernel, by decide +kernel⟩⟩
theorem cv_J10_396 : zCS "java/lang/StringUTF16" 396 yJ10_getChars_4 cJ10_getChars_4 11 (Option.some Jvm.ClassFile.FieldType.int) 3 := ⟨q2524, q2525, q141, q2526, ⟨by decide +kernel, by decide +kernel, by decide +kernel⟩⟩
theorem cv_J7_259 : zCS "java/lang/AbstractStringBuilder" 259 yJ24_getChars cJ24_getChars 11 (Option.some Jvm.ClassFile.FieldType.int) 3 := ⟨q2514, q2515, q166, q2516, ⟨by decide +kernel, by decide +kernel, by decide +kernel⟩⟩
def f_J0_init_J2_b0 (E : zE) (p0 : Nat) (h : zH) : Option (Unit × zH) :=
  some ((), h)
theorem w_J0_init_J2_b0 (C0 : zCx p l e R s m args below meth c D B0 1 "java/util/AbstractCollection" cJ0_init E 1 60 (Option.none : Option Jvm.ClassFile.FieldType) "<init>") {r : Unit} {h' : zH} {p0 : Nat} {h : zH} (hf : f_J0_init_J2_b0 E p0 h = some (r, h')) : zW p l e R s m args below meth c D B0 1 (zEnd D B0 R below args s (zoV r) h') h 0 [(0, .ref p0)] [] := by
  unfold f_J0_init_J2_b0 at hf
  refine zr_aload_n C0 dJ0_init_0 rfl 0 rfl ?_
  refine zr_objInit C0 q201 q182 q183 dJ0_init_1 (by decide) (by show _ ≤ _; exact Nat.le_of_ble_eq_true rfl) ?_
  refine zretW hf ?_
  exact zr_vret C0 rfl dJ0_init_4 rfl
def f_J0_init_J2 (E : zE) (p0 : Nat) (h : zH) : Option (Unit × zH) := f_J0_init_J2_b0 E p0 h
theorem m_J0_init_J2 {l : Launch} (hst : l.stackTraces = false) {D : zD} {B0 : Nat} {E : zE} {p0 : Nat} {h h' : zH} {r : Unit} (hf : f_J0_init_J2 E p0 h = some (r, h')) : zMet l yJ0_init (ws_ yJ0_init cJ0_init 1 (Option.none : Option Jvm.ClassFile.FieldType)) 1 60 D B0 E [.ref p0] h (zoV r) h' := by
  unfold f_J0_init_J2 at hf
  refine zMet_of hst (by decide +kernel) rfl rfl (Nat.le_of_ble_eq_true rfl) (fun p e R s m below meth c C0 hno => ?_)
  show zW _ _ _ _ _ _ _ _ _ _ _ _ _ _ _ _ [(0, .ref p0)] []
  exact w_J0_init_J2_b0 C0 hf
def f_J1_init_J2_b0 (E : zE) (p0 : Nat) (h : zH) : Option (Unit × zH) :=
  bnd2 (f_J0_init_J2 E p0 h) fun x3 h1 =>
  (pF h1 p0 15 0 (.int (0 : Int32))).bind fun h4 =>
  some ((), h4)
theorem w_J1_init_J2_b0 (C0 : zCx p l e R s m args below meth c D B0 1 "java/util/AbstractList" cJ1_init E 2 80 (Option.none : Option Jvm.ClassFile.FieldType) "<init>") {r : Unit} {h' : zH} {p0 : Nat} {h : zH} (hf : f_J1_init_J2_b0 E p0 h = some (r, h')) : zW p l e R s m args below meth c D B0 1 (zEnd D B0 R below args s (zoV r) h') h 0 [(0, .ref p0)] [] := by
  unfold f_J1_init_J2_b0 at hf
  refine zr_aload_n C0 dJ1_init_0 rfl 0 rfl ?_
  obtain ⟨x3, h1, e2, hf⟩ := zbind2 hf
  refine zr_callI_r C0 cv_J1_1 (m_J0_init_J2 C0.2.2.2.2.2.2.1 e2) (by decide) (by decide) rfl rfl (Nat.le_of_ble_eq_true rfl) dJ1_init_1 rfl ?_
  refine zr_aload_n C0 dJ1_init_4 rfl 0 rfl ?_
  refine zr_iconst C0 (v := 0) dJ1_init_5 (by decide) ?_
  obtain ⟨h4, e5, hf⟩ := zbind hf
  refine zr_put C0 pl_J1_7_J2 dJ1_init_6 (fun h => by cases h) rfl rfl e5 ?_
  refine zretW hf ?_
  exact zr_vret C0 rfl dJ1_init_9 rfl
def f_J1_init_J2 (E : zE) (p0 : Nat) (h : zH) : Option (Unit × zH) := f_J1_init_J2_b0 E p0 h
theorem m_J1_init_J2 {l : Launch} (hst : l.stackTraces = false) {D : zD} {B0 : Nat} {E : zE} {p0 : Nat} {h h' : zH} {r : Unit} (hf : f_J1_init_J2 E p0 h = some (r, h')) : zMet l yJ1_init (ws_ yJ1_init cJ1_init 1 (Option.none : Option Jvm.ClassFile.FieldType)) 2 80 D B0 E [.ref p0] h (zoV r) h' := by
  unfold f_J1_init_J2 at hf
  refine zMet_of hst (by decide +kernel) rfl rfl (Nat.le_of_ble_eq_true rfl) (fun p e R s m below meth c C0 hno => ?_)
  show zW _ _ _ _ _ _ _ _ _ _ _ _ _ _ _ _ [(0, .ref p0)] []
  exact w_J1_init_J2_b0 C0 hf
def f_J2_init_b60 (E : zE) (h : zH) : Option (Unit × zH) :=
  some ((), h)
theorem w_J2_init_b60 (C0 : zCx p l e R s m args below meth c D B0 2 "java/util/ArrayList" cJ2_init E 3 100 (Option.none : Option Jvm.ClassFile.FieldType) "<init>") {r : Unit} {h' : zH} {h : zH} (hf : f_J2_init_b60 E  h = some (r, h')) : zW p l e R s m args below meth c D B0 2 (zEnd D B0 R below args s (zoV r) h') h 60 [] [] := by
  unfold f_J2_init_b60 at hf
  refine zretW hf ?_
  exact zr_vret C0 rfl dJ2_init_60 rfl
def f_J2_init_b0 (E : zE) (p0 : Nat) (p1 : Int32) (h : zH) : Option (Unit × zH) :=
  bnd2 (f_J1_init_J2 E p0 h) fun x3 h1 =>
  if p1 ≤ 0 then (
    if p1 = 0 then (
      none
    ) else (
      none
    )
  ) else (
    bnd2 (nA h1 4 p1 (.inr (.inr fun _ => none))) fun q6 h7 =>
    (pF h7 p0 15 1 (.ref q6)).bind fun h9 =>
    f_J2_init_b60 E  h9
  )
theorem w_J2_init_b0 (C0 : zCx p l e R s m args below meth c D B0 2 "java/util/ArrayList" cJ2_init E 3 100 (Option.none : Option Jvm.ClassFile.FieldType) "<init>") {r : Unit} {h' : zH} {p0 : Nat} {p1 : Int32} {h : zH} (hf : f_J2_init_b0 E p0 p1 h = some (r, h')) : zW p l e R s m args below meth c D B0 2 (zEnd D B0 R below args s (zoV r) h') h 0 [(0, .ref p0), (1, .int p1)] [] := by
  unfold f_J2_init_b0 at hf
  refine zr_aload_n C0 dJ2_init_0 rfl 0 rfl ?_
  obtain ⟨x3, h1, e2, hf⟩ := zbind2 hf
  refine zr_callI_r C0 cv_J2_1 (m_J1_init_J2 C0.2.2.2.2.2.2.1 e2) (by decide) (by decide) rfl rfl (Nat.le_of_ble_eq_true rfl) dJ2_init_1 rfl ?_
  refine zr_iload_n C0 dJ2_init_4 rfl 1 rfl ?_
  refine zr_if_le C0 (tgt := 19) dJ2_init_5 (by decide) (fun c4 => ?_) (fun c4 => ?_)
  · have hf := zif_t c4 hf
    refine zr_iload_n C0 dJ2_init_19 rfl 1 rfl ?_
    refine zr_if_ne C0 (tgt := 33) dJ2_init_20 (by decide) (fun c5 => ?_) (fun c5 => ?_)
    · have hf := zif_f c5 hf
      cases hf
    · have hf := zif_t c5 hf
      refine zr_aload_n C0 dJ2_init_23 rfl 0 rfl ?_
      cases hf
  · have hf := zif_f c4 hf
    refine zr_aload_n C0 dJ2_init_8 rfl 0 rfl ?_
    refine zr_iload_n C0 dJ2_init_9 rfl 1 rfl ?_
    obtain ⟨q6, h7, e8, hf⟩ := zbind2 hf
    refine zr_anew4 C0 q202 dJ2_init_10 e8 ?_
    obtain ⟨h9, e10, hf⟩ := zbind hf
    refine zr_put C0 pl_J2_9_J2 dJ2_init_13 (fun h => by cases h) rfl rfl e10 ?_
    refine zr_goto C0 (tgt := 60) dJ2_init_16 (by decide) ?_
    refine zr_sub [] rfl ?_
    exact w_J2_init_b60 C0 hf
def f_J2_init (E : zE) (p0 : Nat) (p1 : Int32) (h : zH) : Option (Unit × zH) := f_J2_init_b0 E p0 p1 h
theorem m_J2_init {l : Launch} (hst : l.stackTraces = false) {D : zD} {B0 : Nat} {E : zE} {p0 : Nat} {p1 : Int32} {h h' : zH} {r : Unit} (hf : f_J2_init E p0 p1 h = some (r, h')) : zMet l yJ2_init (ws_ yJ2_init cJ2_init 2 (Option.none : Option Jvm.ClassFile.FieldType)) 3 100 D B0 E [.ref p0, .int p1] h (zoV r) h' := by
  unfold f_J2_init at hf
  refine zMet_of hst (by decide +kernel) rfl rfl (Nat.le_of_ble_eq_true rfl) (fun p e R s m below meth c C0 hno => ?_)
  show zW _ _ _ _ _ _ _ _ _ _ _ _ _ _ _ _ [(0, .ref p0), (1, .int p1)] []
  exact w_J2_init_b0 C0 hf
def f_J17_init_X3_b0 (E : zE) (p0 : Nat) (h : zH) : Option (Unit × zH) :=
  some ((), h)
theorem w_J17_init_X3_b0 (C0 : zCx p l e R s m args below meth c D B0 1 "java/lang/Record" cJ17_init E 1 60 (Option.none : Option Jvm.ClassFile.FieldType) "<init>") {r : Unit} {h' : zH} {p0 : Nat} {h : zH} (hf : f_J17_init_X3_b0 E p0 h = some (r, h')) : zW p l e R s m args below meth c D B0 1 (zEnd D B0 R below args s (zoV r) h') h 0 [(0, .ref p0)] [] := by
  unfold f_J17_init_X3_b0 at hf
  refine zr_aload_n C0 dJ17_init_0 rfl 0 rfl ?_
  refine zr_objInit C0 q546 q182 q183 dJ17_init_1 (by decide) (by show _ ≤ _; exact Nat.le_of_ble_eq_true rfl) ?_
  refine zretW hf ?_
  exact zr_vret C0 rfl dJ17_init_4 rfl
def f_J17_init_X3 (E : zE) (p0 : Nat) (h : zH) : Option (Unit × zH) := f_J17_init_X3_b0 E p0 h
theorem m_J17_init_X3 {l : Launch} (hst : l.stackTraces = false) {D : zD} {B0 : Nat} {E : zE} {p0 : Nat} {h h' : zH} {r : Unit} (hf : f_J17_init_X3 E p0 h = some (r, h')) : zMet l yJ17_init (ws_ yJ17_init cJ17_init 1 (Option.none : Option Jvm.ClassFile.FieldType)) 1 60 D B0 E [.ref p0] h (zoV r) h' := by
  unfold f_J17_init_X3 at hf
  refine zMet_of hst (by decide +kernel) rfl rfl (Nat.le_of_ble_eq_true rfl) (fun p e R s m below meth c C0 hno => ?_)
  show zW _ _ _ _ _ _ _ _ _ _ _ _ _ _ _ _ [(0, .ref p0)] []
  exact w_J17_init_X3_b0 C0 hf
def f_X3_init_b0 (E : zE) (p0 : Nat) (p1 : Int32) (h : zH) : Option (Unit × zH) :=
  bnd2 (f_J17_init_X3 E p0 h) fun x3 h1 =>
  (pF h1 p0 3 0 (.int p1)).bind fun h4 =>
  some ((), h4)
theorem w_X3_init_b0 (C0 : zCx p l e R s m args below meth c D B0 2 "FranchiseLedger$Rate" cX3_init E 2 80 (Option.none : Option Jvm.ClassFile.FieldType) "<init>") {r : Unit} {h' : zH} {p0 : Nat} {p1 : Int32} {h : zH} (hf : f_X3_init_b0 E p0 p1 h = some (r, h')) : zW p l e R s m args below meth c D B0 2 (zEnd D B0 R below args s (zoV r) h') h 0 [(0, .ref p0), (1, .int p1)] [] := by
  unfold f_X3_init_b0 at hf
  refine zr_aload_n C0 dX3_init_0 rfl 0 rfl ?_
  obtain ⟨x3, h1, e2, hf⟩ := zbind2 hf
  refine zr_callI_r C0 cv_X3_1 (m_J17_init_X3 C0.2.2.2.2.2.2.1 e2) (by decide) (by decide) rfl rfl (Nat.le_of_ble_eq_true rfl) dX3_init_1 rfl ?_
  refine zr_aload_n C0 dX3_init_4 rfl 0 rfl ?_
  refine zr_iload_n C0 dX3_init_5 rfl 1 rfl ?_
  obtain ⟨h4, e5, hf⟩ := zbind hf
  refine zr_put C0 pl_X3_7_X3 dX3_init_6 (fun _ => rfl) rfl rfl e5 ?_
  refine zretW hf ?_
  exact zr_vret C0 rfl dX3_init_9 rfl
def f_X3_init (E : zE) (p0 : Nat) (p1 : Int32) (h : zH) : Option (Unit × zH) := f_X3_init_b0 E p0 p1 h
theorem m_X3_init {l : Launch} (hst : l.stackTraces = false) {D : zD} {B0 : Nat} {E : zE} {p0 : Nat} {p1 : Int32} {h h' : zH} {r : Unit} (hf : f_X3_init E p0 p1 h = some (r, h')) : zMet l yX3_init (ws_ yX3_init cX3_init 2 (Option.none : Option Jvm.ClassFile.FieldType)) 2 80 D B0 E [.ref p0, .int p1] h (zoV r) h' := by
  unfold f_X3_init at hf
  refine zMet_of hst (by decide +kernel) rfl rfl (Nat.le_of_ble_eq_true rfl) (fun p e R s m below meth c C0 hno => ?_)
  show zW _ _ _ _ _ _ _ _ _ _ _ _ _ _ _ _ [(0, .ref p0), (1, .int p1)] []
  exact w_X3_init_b0 C0 hf
def f_X2_init_b0 (E : zE) (p0 : Nat) (h : zH) : Option (Unit × zH) :=
  bnd2 (nO h 15 3 [.int 0, .null, .int 0]) fun q1 h2 =>
  bnd2 (f_J2_init E q1 (2 : Int32) h2) fun x6 h4 =>
  (pF h4 p0 2 0 (.ref q1)).bind fun h7 =>
  bnd2 (nO h7 15 3 [.int 0, .null, .int 0]) fun q9 h10 =>
  bnd2 (f_J2_init E q9 (2 : Int32) h10) fun x14 h12 =>
  (pF h12 p0 2 1 (.ref q9)).bind fun h15 =>
  bnd2 (nO h15 3 1 [.int 0]) fun q17 h18 =>
  bnd2 (f_X3_init E q17 (0 : Int32) h18) fun x22 h20 =>
  (pF h20 p0 2 2 (.ref q17)).bind fun h23 =>
  bnd2 (nO h23 3 1 [.int 0]) fun q25 h26 =>
  bnd2 (f_X3_init E q25 (0 : Int32) h26) fun x30 h28 =>
  (pF h28 p0 2 3 (.ref q25)).bind fun h31 =>
  bnd2 (nO h31 3 1 [.int 0]) fun q33 h34 =>
  bnd2 (f_X3_init E q33 (0 : Int32) h34) fun x38 h36 =>
  (pF h36 p0 2 4 (.ref q33)).bind fun h39 =>
  some ((), h39)
theorem w_X2_init_b0 (C0 : zCx p l e R s m args below meth c D B0 1 "FranchiseLedger$Rules" cX2_init E 4 121 (Option.none : Option Jvm.ClassFile.FieldType) "<init>") {r : Unit} {h' : zH} {p0 : Nat} {h : zH} (hf : f_X2_init_b0 E p0 h = some (r, h')) : zW p l e R s m args below meth c D B0 1 (zEnd D B0 R below args s (zoV r) h') h 0 [(0, .ref p0)] [] := by
  unfold f_X2_init_b0 at hf
  refine zr_aload_n C0 dX2_init_0 rfl 0 rfl ?_
  refine zr_objInit C0 q189 q182 q183 dX2_init_1 (by decide) (by show _ ≤ _; exact Nat.le_of_ble_eq_true rfl) ?_
  refine zr_aload_n C0 dX2_init_4 rfl 0 rfl ?_
  obtain ⟨q1, h2, e3, hf⟩ := zbind2 hf
  refine zr_newc C0 (C := RJ2) (T := TJ2) (N := 3) rfl in_J2 tyJ2_ok q190 q191 q133 nw_J2 dX2_init_5 e3 ?_
  refine zr_dup C0 dX2_init_8 rfl ?_
  refine zr_iconst C0 (v := 2) dX2_init_9 (by decide) ?_
  obtain ⟨x6, h4, e5, hf⟩ := zbind2 hf
  refine zr_callI_r C0 cv_X2_11 (m_J2_init C0.2.2.2.2.2.2.1 e5) (by decide) (by decide) rfl rfl (Nat.le_of_ble_eq_true rfl) dX2_init_10 rfl ?_
  obtain ⟨h7, e8, hf⟩ := zbind hf
  refine zr_put C0 pl_X2_14_X2 dX2_init_13 (fun _ => rfl) rfl rfl e8 ?_
  refine zr_aload_n C0 dX2_init_16 rfl 0 rfl ?_
  obtain ⟨q9, h10, e11, hf⟩ := zbind2 hf
  refine zr_newc C0 (C := RJ2) (T := TJ2) (N := 3) rfl in_J2 tyJ2_ok q190 q191 q133 nw_J2 dX2_init_17 e11 ?_
  refine zr_dup C0 dX2_init_20 rfl ?_
  refine zr_iconst C0 (v := 2) dX2_init_21 (by decide) ?_
  obtain ⟨x14, h12, e13, hf⟩ := zbind2 hf
  refine zr_callI_r C0 cv_X2_11 (m_J2_init C0.2.2.2.2.2.2.1 e13) (by decide) (by decide) rfl rfl (Nat.le_of_ble_eq_true rfl) dX2_init_22 rfl ?_
  obtain ⟨h15, e16, hf⟩ := zbind hf
  refine zr_put C0 pl_X2_20_X2 dX2_init_25 (fun _ => rfl) rfl rfl e16 ?_
  refine zr_aload_n C0 dX2_init_28 rfl 0 rfl ?_
  obtain ⟨q17, h18, e19, hf⟩ := zbind2 hf
  refine zr_newc C0 (C := RX3) (T := TX3) (N := 1) rfl in_X3 tyX3_ok q538 q539 q151 nw_X3 dX2_init_29 e19 ?_
  refine zr_dup C0 dX2_init_32 rfl ?_
  refine zr_iconst C0 (v := 0) dX2_init_33 (by decide) ?_
  obtain ⟨x22, h20, e21, hf⟩ := zbind2 hf
  refine zr_callIN_r C0 cv_X2_25 (m_X3_init C0.2.2.2.2.2.2.1 e21) (by decide) (by decide) rfl rfl (Nat.le_of_ble_eq_true rfl) dX2_init_34 rfl ?_
  obtain ⟨h23, e24, hf⟩ := zbind hf
  refine zr_put C0 pl_X2_26_X2 dX2_init_37 (fun h => by cases h) rfl rfl e24 ?_
  refine zr_aload_n C0 dX2_init_40 rfl 0 rfl ?_
  obtain ⟨q25, h26, e27, hf⟩ := zbind2 hf
  refine zr_newc C0 (C := RX3) (T := TX3) (N := 1) rfl in_X3 tyX3_ok q538 q539 q151 nw_X3 dX2_init_41 e27 ?_
  refine zr_dup C0 dX2_init_44 rfl ?_
  refine zr_iconst C0 (v := 0) dX2_init_45 (by decide) ?_
  obtain ⟨x30, h28, e29, hf⟩ := zbind2 hf
  refine zr_callIN_r C0 cv_X2_25 (m_X3_init C0.2.2.2.2.2.2.1 e29) (by decide) (by decide) rfl rfl (Nat.le_of_ble_eq_true rfl) dX2_init_46 rfl ?_
  obtain ⟨h31, e32, hf⟩ := zbind hf
  refine zr_put C0 pl_X2_30_X2 dX2_init_49 (fun h => by cases h) rfl rfl e32 ?_
  refine zr_aload_n C0 dX2_init_52 rfl 0 rfl ?_
  obtain ⟨q33, h34, e35, hf⟩ := zbind2 hf
  refine zr_newc C0 (C := RX3) (T := TX3) (N := 1) rfl in_X3 tyX3_ok q538 q539 q151 nw_X3 dX2_init_53 e35 ?_
  refine zr_dup C0 dX2_init_56 rfl ?_
  refine zr_iconst C0 (v := 0) dX2_init_57 (by decide) ?_
  obtain ⟨x38, h36, e37, hf⟩ := zbind2 hf
  refine zr_callIN_r C0 cv_X2_25 (m_X3_init C0.2.2.2.2.2.2.1 e37) (by decide) (by decide) rfl rfl (Nat.le_of_ble_eq_true rfl) dX2_init_58 rfl ?_
  obtain ⟨h39, e40, hf⟩ := zbind hf
  refine zr_put C0 pl_X2_33_X2 dX2_init_61 (fun h => by cases h) rfl rfl e40 ?_
  refine zretW hf ?_
  exact zr_vret C0 rfl dX2_init_64 rfl
def f_X2_init (E : zE) (p0 : Nat) (h : zH) : Option (Unit × zH) := f_X2_init_b0 E p0 h
theorem m_X2_init {l : Launch} (hst : l.stackTraces = false) {D : zD} {B0 : Nat} {E : zE} {p0 : Nat} {h h' : zH} {r : Unit} (hf : f_X2_init E p0 h = some (r, h')) : zMet l yX2_init (ws_ yX2_init cX2_init 1 (Option.none : Option Jvm.ClassFile.FieldType)) 4 121 D B0 E [.ref p0] h (zoV r) h' := by
  unfold f_X2_init at hf
  refine zMet_of hst (by decide +kernel) rfl rfl (Nat.le_of_ble_eq_true rfl) (fun p e R s m below meth c C0 hno => ?_)
  show zW _ _ _ _ _ _ _ _ _ _ _ _ _ _ _ _ [(0, .ref p0)] []
  exact w_X2_init_b0 C0 hf
def f_X5_init_l33 (E : zE) : Nat → Nat → Int32 → zH → Option (Unit × zH)
  | 0, _, _, _ => none
  | n + 1, p0, p1, h =>
    if (900 : Int32) ≤ p1 then (
      some ((), h)
    ) else (
      (gR h p0 5 0).bind fun x2 =>
      (sI h x2 2 p1 ((-1 : Int32).toInt8.toInt32)).bind fun h4 =>
      f_X5_init_l33 E n p0 (p1 + 1) h4
    )
theorem w_X5_init_l33 (C0 : zCx p l e R s m args below meth c D B0 2 "FranchiseLedger$Grid" cX5_init E 1 60 (Option.none : Option Jvm.ClassFile.FieldType) "<init>") {r : Unit} {h' : zH} : ∀ (n : Nat) (p0 : Nat) (p1 : Int32) (h : zH), f_X5_init_l33 E n p0 p1 h = some (r, h') → zW p l e R s m args below meth c D B0 2 (zEnd D B0 R below args s (zoV r) h') h 33 [(0, .ref p0), (1, .int p1)] [] := by
  intro n
  induction n with
  | zero =>
    intro p0 p1 h hf
    unfold f_X5_init_l33 at hf
    cases hf
  | succ n ih =>
    intro p0 p1 h hf
    unfold f_X5_init_l33 at hf
    refine zr_iload_n C0 dX5_init_33 rfl 1 rfl ?_
    refine zr_sipush C0 (v := 900) dX5_init_34 (by decide) ?_
    refine zr_icmp_ge C0 (tgt := 53) dX5_init_37 (by decide) (fun c1 => ?_) (fun c1 => ?_)
    · have hf := zif_t c1 hf
      refine zretW hf ?_
      exact zr_vret C0 rfl dX5_init_53 rfl
    · have hf := zif_f c1 hf
      refine zr_aload_n C0 dX5_init_40 rfl 0 rfl ?_
      obtain ⟨x2, e3, hf⟩ := zbind hf
      refine zr_get C0 fl_X5_9_X5 dX5_init_41 (zgR e3) ?_
      refine zr_iload_n C0 dX5_init_44 rfl 1 rfl ?_
      refine zr_iconst C0 (v := -1) dX5_init_45 (by decide) ?_
      obtain ⟨h4, e5, hf⟩ := zbind hf
      refine zr_bast C0 dX5_init_46 e5 ?_
      refine zr_iinc (lv' := [(1, .int (p1 + 1)), (0, .ref p0)]) C0 dX5_init_47 1 rfl rfl (by decide) (by first | rfl | simp [zst1, zst2, zcat_rf]) ?_
      refine zr_goto C0 (tgt := 33) dX5_init_50 (by decide) ?_
      refine zr_sub [1, 0] rfl ?_
      exact ih _ _ _ hf
def f_X5_init_b0 (E : zE) (p0 : Nat) (h : zH) : Option (Unit × zH) :=
  bnd2 (nA h 2 (900 : Int32) (.inl fun _ => 0)) fun q1 h2 =>
  (pF h2 p0 5 0 (.ref q1)).bind fun h4 =>
  bnd2 (nA h4 0 (900 : Int32) (.inl fun _ => 0)) fun q6 h7 =>
  (pF h7 p0 5 1 (.ref q6)).bind fun h9 =>
  bnd2 (nA h9 3 (900 : Int32) (.inl fun _ => 0)) fun q11 h12 =>
  (pF h12 p0 5 2 (.ref q11)).bind fun h14 =>
  f_X5_init_l33 E E.1 p0 (0 : Int32) h14
theorem w_X5_init_b0 (C0 : zCx p l e R s m args below meth c D B0 2 "FranchiseLedger$Grid" cX5_init E 1 60 (Option.none : Option Jvm.ClassFile.FieldType) "<init>") {r : Unit} {h' : zH} {p0 : Nat} {h : zH} (hf : f_X5_init_b0 E p0 h = some (r, h')) : zW p l e R s m args below meth c D B0 2 (zEnd D B0 R below args s (zoV r) h') h 0 [(0, .ref p0)] [] := by
  unfold f_X5_init_b0 at hf
  refine zr_aload_n C0 dX5_init_0 rfl 0 rfl ?_
  refine zr_objInit C0 q612 q182 q183 dX5_init_1 (by decide) (by show _ ≤ _; exact Nat.le_of_ble_eq_true rfl) ?_
  refine zr_aload_n C0 dX5_init_4 rfl 0 rfl ?_
  refine zr_sipush C0 (v := 900) dX5_init_5 (by decide) ?_
  obtain ⟨q1, h2, e3, hf⟩ := zbind2 hf
  refine zr_newa C0 (atype := .byte) (t := 2) q282 rfl (by decide) (fun _ => rfl) dX5_init_8 e3 ?_
  obtain ⟨h4, e5, hf⟩ := zbind hf
  refine zr_put C0 pl_X5_9_X5 dX5_init_10 (fun _ => rfl) rfl rfl e5 ?_
  refine zr_aload_n C0 dX5_init_13 rfl 0 rfl ?_
  refine zr_sipush C0 (v := 900) dX5_init_14 (by decide) ?_
  obtain ⟨q6, h7, e8, hf⟩ := zbind2 hf
  refine zr_newa C0 (atype := .int) (t := 0) q626 rfl (by decide) (fun _ => rfl) dX5_init_17 e8 ?_
  obtain ⟨h9, e10, hf⟩ := zbind hf
  refine zr_put C0 pl_X5_15_X5 dX5_init_19 (fun _ => rfl) rfl rfl e10 ?_
  refine zr_aload_n C0 dX5_init_22 rfl 0 rfl ?_
  refine zr_sipush C0 (v := 900) dX5_init_23 (by decide) ?_
  obtain ⟨q11, h12, e13, hf⟩ := zbind2 hf
  refine zr_newa C0 (atype := .boolean) (t := 3) q627 rfl (by decide) (fun _ => rfl) dX5_init_26 e13 ?_
  obtain ⟨h14, e15, hf⟩ := zbind hf
  refine zr_put C0 pl_X5_19_X5 dX5_init_28 (fun _ => rfl) rfl rfl e15 ?_
  refine zr_iconst C0 (v := 0) dX5_init_31 (by decide) ?_
  refine zr_istore_n (i := 1) (lv' := [(1, .int (0 : Int32)), (0, .ref p0)]) C0 dX5_init_32 rfl (by decide) (by first | rfl | simp [zst1, zst2, zcat_rf]) ?_
  refine zr_sub [1, 0] rfl ?_
  exact w_X5_init_l33 C0 _ _ _ _ hf
def f_X5_init (E : zE) (p0 : Nat) (h : zH) : Option (Unit × zH) := f_X5_init_b0 E p0 h
theorem m_X5_init {l : Launch} (hst : l.stackTraces = false) {D : zD} {B0 : Nat} {E : zE} {p0 : Nat} {h h' : zH} {r : Unit} (hf : f_X5_init E p0 h = some (r, h')) : zMet l yX5_init (ws_ yX5_init cX5_init 2 (Option.none : Option Jvm.ClassFile.FieldType)) 1 60 D B0 E [.ref p0] h (zoV r) h' := by
  unfold f_X5_init at hf
  refine zMet_of hst (by decide +kernel) rfl rfl (Nat.le_of_ble_eq_true rfl) (fun p e R s m below meth c C0 hno => ?_)
  show zW _ _ _ _ _ _ _ _ _ _ _ _ _ _ _ _ [(0, .ref p0)] []
  exact w_X5_init_b0 C0 hf
def f_X4_init_b0 (E : zE) (p0 : Nat) (p1 : Nat) (h : zH) : Option (Unit × zH) :=
  (pF h p0 4 6 (.ref p1)).bind fun h1 =>
  bnd2 (nO h1 15 3 [.int 0, .null, .int 0]) fun q3 h4 =>
  bnd2 (f_J2_init E q3 (2 : Int32) h4) fun x8 h6 =>
  (pF h6 p0 4 0 (.ref q3)).bind fun h9 =>
  bnd2 (nO h9 15 3 [.int 0, .null, .int 0]) fun q11 h12 =>
  bnd2 (f_J2_init E q11 (2 : Int32) h12) fun x16 h14 =>
  (pF h14 p0 4 1 (.ref q11)).bind fun h17 =>
  bnd2 (nO h17 5 3 [.null, .null, .null]) fun q19 h20 =>
  bnd2 (f_X5_init E q19 h20) fun x24 h22 =>
  (pF h22 p0 4 2 (.ref q19)).bind fun h25 =>
  bnd2 (nM h25 (8 : Int32) (8 : Int32)) fun q27 h28 =>
  (pF h28 p0 4 3 (.ref q27)).bind fun h30 =>
  bnd2 (nA h30 1 (3 : Int32) (.inr (.inl fun _ => 0))) fun q32 h33 =>
  (pF h33 p0 4 4 (.ref q32)).bind fun h35 =>
  some ((), h35)
theorem w_X4_init_b0 (C0 : zCx p l e R s m args below meth c D B0 2 "FranchiseLedger$Books" cX4_init E 4 121 (Option.none : Option Jvm.ClassFile.FieldType) "<init>") {r : Unit} {h' : zH} {p0 : Nat} {p1 : Nat} {h : zH} (hf : f_X4_init_b0 E p0 p1 h = some (r, h')) : zW p l e R s m args below meth c D B0 2 (zEnd D B0 R below args s (zoV r) h') h 0 [(0, .ref p0), (1, .ref p1)] [] := by
  unfold f_X4_init_b0 at hf
  refine zr_aload_n C0 dX4_init_0 rfl 0 rfl ?_
  refine zr_aload_n C0 dX4_init_1 rfl 1 rfl ?_
  obtain ⟨h1, e2, hf⟩ := zbind hf
  refine zr_put C0 pl_X4_3_X4 dX4_init_2 (fun _ => rfl) rfl rfl e2 ?_
  refine zr_aload_n C0 dX4_init_5 rfl 0 rfl ?_
  refine zr_objInit C0 q604 q182 q183 dX4_init_6 (by decide) (by show _ ≤ _; exact Nat.le_of_ble_eq_true rfl) ?_
  refine zr_aload_n C0 dX4_init_9 rfl 0 rfl ?_
  obtain ⟨q3, h4, e5, hf⟩ := zbind2 hf
  refine zr_newc C0 (C := RJ2) (T := TJ2) (N := 3) rfl in_J2 tyJ2_ok q605 q191 q133 nw_J2 dX4_init_10 e5 ?_
  refine zr_dup C0 dX4_init_13 rfl ?_
  refine zr_iconst C0 (v := 2) dX4_init_14 (by decide) ?_
  obtain ⟨x8, h6, e7, hf⟩ := zbind2 hf
  refine zr_callI_r C0 cv_X4_17 (m_J2_init C0.2.2.2.2.2.2.1 e7) (by decide) (by decide) rfl rfl (Nat.le_of_ble_eq_true rfl) dX4_init_15 rfl ?_
  obtain ⟨h9, e10, hf⟩ := zbind hf
  refine zr_put C0 pl_X4_20_X4 dX4_init_18 (fun _ => rfl) rfl rfl e10 ?_
  refine zr_aload_n C0 dX4_init_21 rfl 0 rfl ?_
  obtain ⟨q11, h12, e13, hf⟩ := zbind2 hf
  refine zr_newc C0 (C := RJ2) (T := TJ2) (N := 3) rfl in_J2 tyJ2_ok q605 q191 q133 nw_J2 dX4_init_22 e13 ?_
  refine zr_dup C0 dX4_init_25 rfl ?_
  refine zr_iconst C0 (v := 2) dX4_init_26 (by decide) ?_
  obtain ⟨x16, h14, e15, hf⟩ := zbind2 hf
  refine zr_callI_r C0 cv_X4_17 (m_J2_init C0.2.2.2.2.2.2.1 e15) (by decide) (by decide) rfl rfl (Nat.le_of_ble_eq_true rfl) dX4_init_27 rfl ?_
  obtain ⟨h17, e18, hf⟩ := zbind hf
  refine zr_put C0 pl_X4_24_X4 dX4_init_30 (fun _ => rfl) rfl rfl e18 ?_
  refine zr_aload_n C0 dX4_init_33 rfl 0 rfl ?_
  obtain ⟨q19, h20, e21, hf⟩ := zbind2 hf
  refine zr_newc C0 (C := RX5) (T := TX5) (N := 3) rfl in_X5 tyX5_ok q607 q608 q153 nw_X5 dX4_init_34 e21 ?_
  refine zr_dup C0 dX4_init_37 rfl ?_
  obtain ⟨x24, h22, e23, hf⟩ := zbind2 hf
  refine zr_callI_r C0 cv_X4_29 (m_X5_init C0.2.2.2.2.2.2.1 e23) (by decide) (by decide) rfl rfl (Nat.le_of_ble_eq_true rfl) dX4_init_38 rfl ?_
  obtain ⟨h25, e26, hf⟩ := zbind hf
  refine zr_put C0 pl_X4_30_X4 dX4_init_41 (fun _ => rfl) rfl rfl e26 ?_
  refine zr_aload_n C0 dX4_init_44 rfl 0 rfl ?_
  refine zr_bipush C0 (v := 8) dX4_init_45 (by decide) ?_
  refine zr_bipush C0 (v := 8) dX4_init_47 (by decide) ?_
  obtain ⟨q27, h28, e29, hf⟩ := zbind2 hf
  refine zr_multi C0 q628 dX4_init_49 e29 ?_
  obtain ⟨h30, e31, hf⟩ := zbind hf
  refine zr_put C0 pl_X4_36_X4 dX4_init_53 (fun _ => rfl) rfl rfl e31 ?_
  refine zr_aload_n C0 dX4_init_56 rfl 0 rfl ?_
  refine zr_iconst C0 (v := 3) dX4_init_57 (by decide) ?_
  obtain ⟨q32, h33, e34, hf⟩ := zbind2 hf
  refine zr_newa C0 (atype := .long) (t := 1) q661 rfl (by decide) (fun _ => rfl) dX4_init_58 e34 ?_
  obtain ⟨h35, e36, hf⟩ := zbind hf
  refine zr_put C0 pl_X4_39_X4 dX4_init_60 (fun _ => rfl) rfl rfl e36 ?_
  refine zretW hf ?_
  exact zr_vret C0 rfl dX4_init_63 rfl
def f_X4_init (E : zE) (p0 : Nat) (p1 : Nat) (h : zH) : Option (Unit × zH) := f_X4_init_b0 E p0 p1 h
theorem m_X4_init {l : Launch} (hst : l.stackTraces = false) {D : zD} {B0 : Nat} {E : zE} {p0 : Nat} {p1 : Nat} {h h' : zH} {r : Unit} (hf : f_X4_init E p0 p1 h = some (r, h')) : zMet l yX4_init (ws_ yX4_init cX4_init 2 (Option.none : Option Jvm.ClassFile.FieldType)) 4 121 D B0 E [.ref p0, .ref p1] h (zoV r) h' := by
  unfold f_X4_init at hf
  refine zMet_of hst (by decide +kernel) rfl rfl (Nat.le_of_ble_eq_true rfl) (fun p e R s m below meth c C0 hno => ?_)
  show zW _ _ _ _ _ _ _ _ _ _ _ _ _ _ _ _ [(0, .ref p0), (1, .ref p1)] []
  exact w_X4_init_b0 C0 hf
def f_J0_init_J19_b0 (E : zE) (p0 : Nat) (h : zH) : Option (Unit × zH) :=
  some ((), h)
theorem w_J0_init_J19_b0 (C0 : zCx p l e R s m args below meth c D B0 1 "java/util/AbstractCollection" cJ0_init E 1 60 (Option.none : Option Jvm.ClassFile.FieldType) "<init>") {r : Unit} {h' : zH} {p0 : Nat} {h : zH} (hf : f_J0_init_J19_b0 E p0 h = some (r, h')) : zW p l e R s m args below meth c D B0 1 (zEnd D B0 R below args s (zoV r) h') h 0 [(0, .ref p0)] [] := by
  unfold f_J0_init_J19_b0 at hf
  refine zr_aload_n C0 dJ0_init_0 rfl 0 rfl ?_
  refine zr_objInit C0 q201 q182 q183 dJ0_init_1 (by decide) (by show _ ≤ _; exact Nat.le_of_ble_eq_true rfl) ?_
  refine zretW hf ?_
  exact zr_vret C0 rfl dJ0_init_4 rfl
def f_J0_init_J19 (E : zE) (p0 : Nat) (h : zH) : Option (Unit × zH) := f_J0_init_J19_b0 E p0 h
theorem m_J0_init_J19 {l : Launch} (hst : l.stackTraces = false) {D : zD} {B0 : Nat} {E : zE} {p0 : Nat} {h h' : zH} {r : Unit} (hf : f_J0_init_J19 E p0 h = some (r, h')) : zMet l yJ0_init (ws_ yJ0_init cJ0_init 1 (Option.none : Option Jvm.ClassFile.FieldType)) 1 60 D B0 E [.ref p0] h (zoV r) h' := by
  unfold f_J0_init_J19 at hf
  refine zMet_of hst (by decide +kernel) rfl rfl (Nat.le_of_ble_eq_true rfl) (fun p e R s m below meth c C0 hno => ?_)
  show zW _ _ _ _ _ _ _ _ _ _ _ _ _ _ _ _ [(0, .ref p0)] []
  exact w_J0_init_J19_b0 C0 hf
def f_J1_init_J19_b0 (E : zE) (p0 : Nat) (h : zH) : Option (Unit × zH) :=
  bnd2 (f_J0_init_J19 E p0 h) fun x3 h1 =>
  (pF h1 p0 16 0 (.int (0 : Int32))).bind fun h4 =>
  some ((), h4)
theorem w_J1_init_J19_b0 (C0 : zCx p l e R s m args below meth c D B0 1 "java/util/AbstractList" cJ1_init E 2 80 (Option.none : Option Jvm.ClassFile.FieldType) "<init>") {r : Unit} {h' : zH} {p0 : Nat} {h : zH} (hf : f_J1_init_J19_b0 E p0 h = some (r, h')) : zW p l e R s m args below meth c D B0 1 (zEnd D B0 R below args s (zoV r) h') h 0 [(0, .ref p0)] [] := by
  unfold f_J1_init_J19_b0 at hf
  refine zr_aload_n C0 dJ1_init_0 rfl 0 rfl ?_
  obtain ⟨x3, h1, e2, hf⟩ := zbind2 hf
  refine zr_callI_r C0 cv_J1_1 (m_J0_init_J19 C0.2.2.2.2.2.2.1 e2) (by decide) (by decide) rfl rfl (Nat.le_of_ble_eq_true rfl) dJ1_init_1 rfl ?_
  refine zr_aload_n C0 dJ1_init_4 rfl 0 rfl ?_
  refine zr_iconst C0 (v := 0) dJ1_init_5 (by decide) ?_
  obtain ⟨h4, e5, hf⟩ := zbind hf
  refine zr_put C0 pl_J1_7_J19 dJ1_init_6 (fun h => by cases h) rfl rfl e5 ?_
  refine zretW hf ?_
  exact zr_vret C0 rfl dJ1_init_9 rfl
def f_J1_init_J19 (E : zE) (p0 : Nat) (h : zH) : Option (Unit × zH) := f_J1_init_J19_b0 E p0 h
theorem m_J1_init_J19 {l : Launch} (hst : l.stackTraces = false) {D : zD} {B0 : Nat} {E : zE} {p0 : Nat} {h h' : zH} {r : Unit} (hf : f_J1_init_J19 E p0 h = some (r, h')) : zMet l yJ1_init (ws_ yJ1_init cJ1_init 1 (Option.none : Option Jvm.ClassFile.FieldType)) 2 80 D B0 E [.ref p0] h (zoV r) h' := by
  unfold f_J1_init_J19 at hf
  refine zMet_of hst (by decide +kernel) rfl rfl (Nat.le_of_ble_eq_true rfl) (fun p e R s m below meth c C0 hno => ?_)
  show zW _ _ _ _ _ _ _ _ _ _ _ _ _ _ _ _ [(0, .ref p0)] []
  exact w_J1_init_J19_b0 C0 hf
def f_J18_init_J19_b0 (E : zE) (p0 : Nat) (h : zH) : Option (Unit × zH) :=
  bnd2 (f_J1_init_J19 E p0 h) fun x3 h1 =>
  some ((), h1)
theorem w_J18_init_J19_b0 (C0 : zCx p l e R s m args below meth c D B0 1 "java/util/AbstractSequentialList" cJ18_init E 3 100 (Option.none : Option Jvm.ClassFile.FieldType) "<init>") {r : Unit} {h' : zH} {p0 : Nat} {h : zH} (hf : f_J18_init_J19_b0 E p0 h = some (r, h')) : zW p l e R s m args below meth c D B0 1 (zEnd D B0 R below args s (zoV r) h') h 0 [(0, .ref p0)] [] := by
  unfold f_J18_init_J19_b0 at hf
  refine zr_aload_n C0 dJ18_init_0 rfl 0 rfl ?_
  obtain ⟨x3, h1, e2, hf⟩ := zbind2 hf
  refine zr_callI_r C0 cv_J18_1 (m_J1_init_J19 C0.2.2.2.2.2.2.1 e2) (by decide) (by decide) rfl rfl (Nat.le_of_ble_eq_true rfl) dJ18_init_1 rfl ?_
  refine zretW hf ?_
  exact zr_vret C0 rfl dJ18_init_4 rfl
def f_J18_init_J19 (E : zE) (p0 : Nat) (h : zH) : Option (Unit × zH) := f_J18_init_J19_b0 E p0 h
theorem m_J18_init_J19 {l : Launch} (hst : l.stackTraces = false) {D : zD} {B0 : Nat} {E : zE} {p0 : Nat} {h h' : zH} {r : Unit} (hf : f_J18_init_J19 E p0 h = some (r, h')) : zMet l yJ18_init (ws_ yJ18_init cJ18_init 1 (Option.none : Option Jvm.ClassFile.FieldType)) 3 100 D B0 E [.ref p0] h (zoV r) h' := by
  unfold f_J18_init_J19 at hf
  refine zMet_of hst (by decide +kernel) rfl rfl (Nat.le_of_ble_eq_true rfl) (fun p e R s m below meth c C0 hno => ?_)
  show zW _ _ _ _ _ _ _ _ _ _ _ _ _ _ _ _ [(0, .ref p0)] []
  exact w_J18_init_J19_b0 C0 hf
def f_J19_init_b0 (E : zE) (p0 : Nat) (h : zH) : Option (Unit × zH) :=
  bnd2 (f_J18_init_J19 E p0 h) fun x3 h1 =>
  (pF h1 p0 16 1 (.int (0 : Int32))).bind fun h4 =>
  some ((), h4)
theorem w_J19_init_b0 (C0 : zCx p l e R s m args below meth c D B0 1 "java/util/LinkedList" cJ19_init E 4 120 (Option.none : Option Jvm.ClassFile.FieldType) "<init>") {r : Unit} {h' : zH} {p0 : Nat} {h : zH} (hf : f_J19_init_b0 E p0 h = some (r, h')) : zW p l e R s m args below meth c D B0 1 (zEnd D B0 R below args s (zoV r) h') h 0 [(0, .ref p0)] [] := by
  unfold f_J19_init_b0 at hf
  refine zr_aload_n C0 dJ19_init_0 rfl 0 rfl ?_
  obtain ⟨x3, h1, e2, hf⟩ := zbind2 hf
  refine zr_callI_r C0 cv_J19_1 (m_J18_init_J19 C0.2.2.2.2.2.2.1 e2) (by decide) (by decide) rfl rfl (Nat.le_of_ble_eq_true rfl) dJ19_init_1 rfl ?_
  refine zr_aload_n C0 dJ19_init_4 rfl 0 rfl ?_
  refine zr_iconst C0 (v := 0) dJ19_init_5 (by decide) ?_
  obtain ⟨h4, e5, hf⟩ := zbind hf
  refine zr_put C0 pl_J19_7_J19 dJ19_init_6 (fun h => by cases h) rfl rfl e5 ?_
  refine zretW hf ?_
  exact zr_vret C0 rfl dJ19_init_9 rfl
def f_J19_init (E : zE) (p0 : Nat) (h : zH) : Option (Unit × zH) := f_J19_init_b0 E p0 h
theorem m_J19_init {l : Launch} (hst : l.stackTraces = false) {D : zD} {B0 : Nat} {E : zE} {p0 : Nat} {h h' : zH} {r : Unit} (hf : f_J19_init E p0 h = some (r, h')) : zMet l yJ19_init (ws_ yJ19_init cJ19_init 1 (Option.none : Option Jvm.ClassFile.FieldType)) 4 120 D B0 E [.ref p0] h (zoV r) h' := by
  unfold f_J19_init at hf
  refine zMet_of hst (by decide +kernel) rfl rfl (Nat.le_of_ble_eq_true rfl) (fun p e R s m below meth c C0 hno => ?_)
  show zW _ _ _ _ _ _ _ _ _ _ _ _ _ _ _ _ [(0, .ref p0)] []
  exact w_J19_init_b0 C0 hf
def f_J10_newBytesLength_b0 (E : zE) (p0 : Int32) (h : zH) : Option (Int32 × zH) :=
  if 0 ≤ p0 then (
    if p0 < (1073741823 : Int32) then (
      some ((p0 <<< ((1 : Int32) &&& 31)), h)
    ) else (
      none
    )
  ) else (
    none
  )
theorem w_J10_newBytesLength_b0 (C0 : zCx p l e R s m args below meth c D B0 1 "java/lang/StringUTF16" cJ10_newBytesLength E 1 60 (Option.some Jvm.ClassFile.FieldType.int) "newBytesLength") {r : Int32} {h' : zH} {p0 : Int32} {h : zH} (hf : f_J10_newBytesLength_b0 E p0 h = some (r, h')) : zW p l e R s m args below meth c D B0 1 (zEnd D B0 R below args s (zoI r) h') h 0 [(0, .int p0)] [] := by
  unfold f_J10_newBytesLength_b0 at hf
  refine zr_iload_n C0 dJ10_newBytesLength_0 rfl 0 rfl ?_
  refine zr_if_ge C0 (tgt := 12) dJ10_newBytesLength_1 (by decide) (fun c1 => ?_) (fun c1 => ?_)
  · have hf := zif_t c1 hf
    refine zr_iload_n C0 dJ10_newBytesLength_12 rfl 0 rfl ?_
    refine zr_ldc C0 (v := 1073741823) q267 dJ10_newBytesLength_13 ?_
    refine zr_icmp_lt C0 (tgt := 55) dJ10_newBytesLength_15 (by decide) (fun c2 => ?_) (fun c2 => ?_)
    · have hf := zif_t c2 hf
      refine zr_iload_n C0 dJ10_newBytesLength_55 rfl 0 rfl ?_
      refine zr_iconst C0 (v := 1) dJ10_newBytesLength_56 (by decide) ?_
      refine zr_ishl C0 dJ10_newBytesLength_57 ?_
      refine zretW hf ?_
      exact zr_iret C0 (ty := .int) rfl rfl dJ10_newBytesLength_58 rfl
    · have hf := zif_f c2 hf
      cases hf
  · have hf := zif_f c1 hf
    cases hf
def f_J10_newBytesLength (E : zE) (p0 : Int32) (h : zH) : Option (Int32 × zH) := f_J10_newBytesLength_b0 E p0 h
theorem m_J10_newBytesLength {l : Launch} (hst : l.stackTraces = false) {D : zD} {B0 : Nat} {E : zE} {p0 : Int32} {h h' : zH} {r : Int32} (hf : f_J10_newBytesLength E p0 h = some (r, h')) : zMet l yJ10_newBytesLength (ws_ yJ10_newBytesLength cJ10_newBytesLength 1 (Option.some Jvm.ClassFile.FieldType.int)) 1 60 D B0 E [.int p0] h (zoI r) h' := by
  unfold f_J10_newBytesLength at hf
  refine zMet_of hst (by decide +kernel) rfl rfl (Nat.le_of_ble_eq_true rfl) (fun p e R s m below meth c C0 hno => ?_)
  show zW _ _ _ _ _ _ _ _ _ _ _ _ _ _ _ _ [(0, .int p0)] []
  exact w_J10_newBytesLength_b0 C0 hf
def f_J10_newBytesFor_b0 (E : zE) (p0 : Int32) (h : zH) : Option (Nat × zH) :=
  bnd2 (f_J10_newBytesLength E p0 h) fun x3 h1 =>
  bnd2 (nA h1 2 x3 (.inl fun _ => 0)) fun q4 h5 =>
  some (q4, h5)
theorem w_J10_newBytesFor_b0 (C0 : zCx p l e R s m args below meth c D B0 1 "java/lang/StringUTF16" cJ10_newBytesFor E 2 80 (Option.some (Jvm.ClassFile.FieldType.array Jvm.ClassFile.FieldType.byte)) "newBytesFor") {r : Nat} {h' : zH} {p0 : Int32} {h : zH} (hf : f_J10_newBytesFor_b0 E p0 h = some (r, h')) : zW p l e R s m args below meth c D B0 1 (zEnd D B0 R below args s (zoR r) h') h 0 [(0, .int p0)] [] := by
  unfold f_J10_newBytesFor_b0 at hf
  refine zr_iload_n C0 dJ10_newBytesFor_0 rfl 0 rfl ?_
  obtain ⟨x3, h1, e2, hf⟩ := zbind2 hf
  refine zr_callS_r C0 cv_J10_11 (m_J10_newBytesLength C0.2.2.2.2.2.2.1 e2) (by decide) (by decide) rfl rfl (Nat.le_of_ble_eq_true rfl) dJ10_newBytesFor_1 rfl ?_
  obtain ⟨q4, h5, e6, hf⟩ := zbind2 hf
  refine zr_newa C0 (atype := .byte) (t := 2) q282 rfl (by decide) (fun _ => rfl) dJ10_newBytesFor_4 e6 ?_
  refine zretW hf ?_
  exact zr_aret C0 rfl (Or.inr ⟨_, rfl⟩) dJ10_newBytesFor_6 rfl
def f_J10_newBytesFor (E : zE) (p0 : Int32) (h : zH) : Option (Nat × zH) := f_J10_newBytesFor_b0 E p0 h
theorem m_J10_newBytesFor {l : Launch} (hst : l.stackTraces = false) {D : zD} {B0 : Nat} {E : zE} {p0 : Int32} {h h' : zH} {r : Nat} (hf : f_J10_newBytesFor E p0 h = some (r, h')) : zMet l yJ10_newBytesFor (ws_ yJ10_newBytesFor cJ10_newBytesFor 1 (Option.some (Jvm.ClassFile.FieldType.array Jvm.ClassFile.FieldType.byte))) 2 80 D B0 E [.int p0] h (zoR r) h' := by
  unfold f_J10_newBytesFor at hf
  refine zMet_of hst (by decide +kernel) rfl rfl (Nat.le_of_ble_eq_true rfl) (fun p e R s m below meth c C0 hno => ?_)
  show zW _ _ _ _ _ _ _ _ _ _ _ _ _ _ _ _ [(0, .int p0)] []
  exact w_J10_newBytesFor_b0 C0 hf
def f_J7_init_b38 (E : zE) (h : zH) : Option (Unit × zH) :=
  some ((), h)
theorem w_J7_init_b38 (C0 : zCx p l e R s m args below meth c D B0 2 "java/lang/AbstractStringBuilder" cJ7_init E 3 100 (Option.none : Option Jvm.ClassFile.FieldType) "<init>") {r : Unit} {h' : zH} {h : zH} (hf : f_J7_init_b38 E  h = some (r, h')) : zW p l e R s m args below meth c D B0 2 (zEnd D B0 R below args s (zoV r) h') h 38 [] [] := by
  unfold f_J7_init_b38 at hf
  refine zretW hf ?_
  exact zr_vret C0 rfl dJ7_init_38 rfl
def f_J7_init_b0 (E : zE) (p0 : Nat) (p1 : Int32) (h : zH) : Option (Unit × zH) :=
  if (1 : Int32) = 0 then (
    bnd2 (f_J10_newBytesFor E p1 h) fun x4 h2 =>
    (pF h2 p0 18 0 (.ref x4)).bind fun h5 =>
    (pF h5 p0 18 1 (.int (1 : Int32))).bind fun h7 =>
    f_J7_init_b38 E  h7
  ) else (
    bnd2 (nA h 2 p1 (.inl fun _ => 0)) fun q9 h10 =>
    (pF h10 p0 18 0 (.ref q9)).bind fun h12 =>
    (pF h12 p0 18 1 (.int (0 : Int32))).bind fun h14 =>
    f_J7_init_b38 E  h14
  )
theorem w_J7_init_b0 (C0 : zCx p l e R s m args below meth c D B0 2 "java/lang/AbstractStringBuilder" cJ7_init E 3 100 (Option.none : Option Jvm.ClassFile.FieldType) "<init>") {r : Unit} {h' : zH} {p0 : Nat} {p1 : Int32} {h : zH} (hf : f_J7_init_b0 E p0 p1 h = some (r, h')) : zW p l e R s m args below meth c D B0 2 (zEnd D B0 R below args s (zoV r) h') h 0 [(0, .ref p0), (1, .int p1)] [] := by
  unfold f_J7_init_b0 at hf
  refine zr_aload_n C0 dJ7_init_0 rfl 0 rfl ?_
  refine zr_objInit C0 q258 q182 q183 dJ7_init_1 (by decide) (by show _ ≤ _; exact Nat.le_of_ble_eq_true rfl) ?_
  refine zr_gets C0 (C0.2.2.2.2.2.2.2.2.2.1.2.2.1 _ (List.mem_of_getElem? (i := 0) rfl)) q259 dJ7_init_4 ?_
  refine zr_if_eq C0 (tgt := 25) dJ7_init_7 (by decide) (fun c1 => ?_) (fun c1 => ?_)
  · have hf := zif_t c1 hf
    refine zr_aload_n C0 dJ7_init_25 rfl 0 rfl ?_
    refine zr_iload_n C0 dJ7_init_26 rfl 1 rfl ?_
    obtain ⟨x4, h2, e3, hf⟩ := zbind2 hf
    refine zr_callS_r C0 cv_J7_26 (m_J10_newBytesFor C0.2.2.2.2.2.2.1 e3) (by decide) (by decide) rfl rfl (Nat.le_of_ble_eq_true rfl) dJ7_init_27 rfl ?_
    obtain ⟨h5, e6, hf⟩ := zbind hf
    refine zr_put C0 pl_J7_15_J8 dJ7_init_30 (fun h => by cases h) rfl rfl e6 ?_
    refine zr_aload_n C0 dJ7_init_33 rfl 0 rfl ?_
    refine zr_iconst C0 (v := 1) dJ7_init_34 (by decide) ?_
    obtain ⟨h7, e8, hf⟩ := zbind hf
    refine zr_put C0 pl_J7_22_J8 dJ7_init_35 (fun h => by cases h) (by decide) (by decide) e8 ?_
    refine zr_sub [] rfl ?_
    exact w_J7_init_b38 C0 hf
  · have hf := zif_f c1 hf
    refine zr_aload_n C0 dJ7_init_10 rfl 0 rfl ?_
    refine zr_iload_n C0 dJ7_init_11 rfl 1 rfl ?_
    obtain ⟨q9, h10, e11, hf⟩ := zbind2 hf
    refine zr_newa C0 (atype := .byte) (t := 2) q282 rfl (by decide) (fun _ => rfl) dJ7_init_12 e11 ?_
    obtain ⟨h12, e13, hf⟩ := zbind hf
    refine zr_put C0 pl_J7_15_J8 dJ7_init_14 (fun h => by cases h) rfl rfl e13 ?_
    refine zr_aload_n C0 dJ7_init_17 rfl 0 rfl ?_
    refine zr_iconst C0 (v := 0) dJ7_init_18 (by decide) ?_
    obtain ⟨h14, e15, hf⟩ := zbind hf
    refine zr_put C0 pl_J7_22_J8 dJ7_init_19 (fun h => by cases h) (by decide) (by decide) e15 ?_
    refine zr_goto C0 (tgt := 38) dJ7_init_22 (by decide) ?_
    refine zr_sub [] rfl ?_
    exact w_J7_init_b38 C0 hf
def f_J7_init (E : zE) (p0 : Nat) (p1 : Int32) (h : zH) : Option (Unit × zH) := f_J7_init_b0 E p0 p1 h
theorem m_J7_init {l : Launch} (hst : l.stackTraces = false) {D : zD} {B0 : Nat} {E : zE} {p0 : Nat} {p1 : Int32} {h h' : zH} {r : Unit} (hf : f_J7_init E p0 p1 h = some (r, h')) : zMet l yJ7_init (ws_ yJ7_init cJ7_init 2 (Option.none : Option Jvm.ClassFile.FieldType)) 3 100 D B0 E [.ref p0, .int p1] h (zoV r) h' := by
  unfold f_J7_init at hf
  refine zMet_of hst (by decide +kernel) rfl rfl (Nat.le_of_ble_eq_true rfl) (fun p e R s m below meth c C0 hno => ?_)
  show zW _ _ _ _ _ _ _ _ _ _ _ _ _ _ _ _ [(0, .ref p0), (1, .int p1)] []
  exact w_J7_init_b0 C0 hf
def f_J8_init_2_b0 (E : zE) (p0 : Nat) (p1 : Int32) (h : zH) : Option (Unit × zH) :=
  bnd2 (f_J7_init E p0 p1 h) fun x3 h1 =>
  some ((), h1)
theorem w_J8_init_2_b0 (C0 : zCx p l e R s m args below meth c D B0 2 "java/lang/StringBuilder" cJ8_init_2 E 4 121 (Option.none : Option Jvm.ClassFile.FieldType) "<init>") {r : Unit} {h' : zH} {p0 : Nat} {p1 : Int32} {h : zH} (hf : f_J8_init_2_b0 E p0 p1 h = some (r, h')) : zW p l e R s m args below meth c D B0 2 (zEnd D B0 R below args s (zoV r) h') h 0 [(0, .ref p0), (1, .int p1)] [] := by
  unfold f_J8_init_2_b0 at hf
  refine zr_aload_n C0 dJ8_init_2_0 rfl 0 rfl ?_
  refine zr_iload_n C0 dJ8_init_2_1 rfl 1 rfl ?_
  obtain ⟨x3, h1, e2, hf⟩ := zbind2 hf
  refine zr_callI_r C0 cv_J8_1 (m_J7_init C0.2.2.2.2.2.2.1 e2) (by decide) (by decide) rfl rfl (Nat.le_of_ble_eq_true rfl) dJ8_init_2_2 rfl ?_
  refine zretW hf ?_
  exact zr_vret C0 rfl dJ8_init_2_5 rfl
def f_J8_init_2 (E : zE) (p0 : Nat) (p1 : Int32) (h : zH) : Option (Unit × zH) := f_J8_init_2_b0 E p0 p1 h
theorem m_J8_init_2 {l : Launch} (hst : l.stackTraces = false) {D : zD} {B0 : Nat} {E : zE} {p0 : Nat} {p1 : Int32} {h h' : zH} {r : Unit} (hf : f_J8_init_2 E p0 p1 h = some (r, h')) : zMet l yJ8_init_2 (ws_ yJ8_init_2 cJ8_init_2 2 (Option.none : Option Jvm.ClassFile.FieldType)) 4 121 D B0 E [.ref p0, .int p1] h (zoV r) h' := by
  unfold f_J8_init_2 at hf
  refine zMet_of hst (by decide +kernel) rfl rfl (Nat.le_of_ble_eq_true rfl) (fun p e R s m below meth c C0 hno => ?_)
  show zW _ _ _ _ _ _ _ _ _ _ _ _ _ _ _ _ [(0, .ref p0), (1, .int p1)] []
  exact w_J8_init_2_b0 C0 hf
def f_X1_init_b0 (E : zE) (p0 : Nat) (h : zH) : Option (Unit × zH) :=
  bnd2 (nO h 2 10 [.null, .null, .null, .null, .null, .long 0, .long 0, .int 0, .int 0, .int 0]) fun q1 h2 =>
  bnd2 (f_X2_init E q1 h2) fun x6 h4 =>
  (pF h4 p0 0 0 (.ref q1)).bind fun h7 =>
  bnd2 (nO h7 4 7 [.null, .null, .null, .null, .null, .int 0, .null]) fun q9 h10 =>
  bnd2 (f_X4_init E q9 p0 h10) fun x14 h12 =>
  (pF h12 p0 0 1 (.ref q9)).bind fun h15 =>
  bnd2 (nA h15 6 (2 : Int32) (.inr (.inr fun _ => none))) fun q17 h18 =>
  (pF h18 p0 0 2 (.ref q17)).bind fun h20 =>
  bnd2 (nA h20 2 (900 : Int32) (.inl fun _ => 0)) fun q22 h23 =>
  (pF h23 p0 0 3 (.ref q22)).bind fun h25 =>
  bnd2 (nO h25 16 4 [.int 0, .int 0, .null, .null]) fun q27 h28 =>
  bnd2 (f_J19_init E q27 h28) fun x32 h30 =>
  (pF h30 p0 0 4 (.ref q27)).bind fun h33 =>
  bnd2 (nO h33 18 4 [.null, .int 0, .int 0, .int 0]) fun q35 h36 =>
  bnd2 (f_J8_init_2 E q35 (160 : Int32) h36) fun x40 h38 =>
  (pF h38 p0 0 5 (.ref q35)).bind fun h41 =>
  bnd2 (nA h41 2 (1500 : Int32) (.inl fun _ => 0)) fun q43 h44 =>
  (pF h44 p0 0 6 (.ref q43)).bind fun h46 =>
  (pF h46 p0 0 9 (.int (-1 : Int32))).bind fun h48 =>
  some ((), h48)
theorem w_X1_init_b0 (C0 : zCx p l e R s m args below meth c D B0 1 "FranchiseLedger" cX1_init E 5 142 (Option.none : Option Jvm.ClassFile.FieldType) "<init>") {r : Unit} {h' : zH} {p0 : Nat} {h : zH} (hf : f_X1_init_b0 E p0 h = some (r, h')) : zW p l e R s m args below meth c D B0 1 (zEnd D B0 R below args s (zoV r) h') h 0 [(0, .ref p0)] [] := by
  unfold f_X1_init_b0 at hf
  refine zr_aload_n C0 dX1_init_0 rfl 0 rfl ?_
  refine zr_objInit C0 q181 q182 q183 dX1_init_1 (by decide) (by show _ ≤ _; exact Nat.le_of_ble_eq_true rfl) ?_
  refine zr_aload_n C0 dX1_init_4 rfl 0 rfl ?_
  obtain ⟨q1, h2, e3, hf⟩ := zbind2 hf
  refine zr_newc C0 (C := RX2) (T := TX2) (N := 10) rfl in_X2 tyX2_ok q184 q185 q130 nw_X2 dX1_init_5 e3 ?_
  refine zr_dup C0 dX1_init_8 rfl ?_
  obtain ⟨x6, h4, e5, hf⟩ := zbind2 hf
  refine zr_callIN_r C0 cv_X1_29 (m_X2_init C0.2.2.2.2.2.2.1 e5) (by decide) (by decide) rfl rfl (Nat.le_of_ble_eq_true rfl) dX1_init_9 rfl ?_
  obtain ⟨h7, e8, hf⟩ := zbind hf
  refine zr_put C0 pl_X1_30_X1 dX1_init_12 (fun h => by cases h) rfl rfl e8 ?_
  refine zr_aload_n C0 dX1_init_15 rfl 0 rfl ?_
  obtain ⟨q9, h10, e11, hf⟩ := zbind2 hf
  refine zr_newc C0 (C := RX4) (T := TX4) (N := 7) rfl in_X4 tyX4_ok q599 q600 q152 nw_X4 dX1_init_16 e11 ?_
  refine zr_dup C0 dX1_init_19 rfl ?_
  refine zr_aload_n C0 dX1_init_20 rfl 0 rfl ?_
  obtain ⟨x14, h12, e13, hf⟩ := zbind2 hf
  refine zr_callIN_r C0 cv_X1_36 (m_X4_init C0.2.2.2.2.2.2.1 e13) (by decide) (by decide) rfl rfl (Nat.le_of_ble_eq_true rfl) dX1_init_21 rfl ?_
  obtain ⟨h15, e16, hf⟩ := zbind hf
  refine zr_put C0 pl_X1_39_X1 dX1_init_24 (fun h => by cases h) rfl rfl e16 ?_
  refine zr_aload_n C0 dX1_init_27 rfl 0 rfl ?_
  refine zr_iconst C0 (v := 2) dX1_init_28 (by decide) ?_
  obtain ⟨q17, h18, e19, hf⟩ := zbind2 hf
  refine zr_anew6 C0 q599 dX1_init_29 e19 ?_
  obtain ⟨h20, e21, hf⟩ := zbind hf
  refine zr_put C0 pl_X1_43_X1 dX1_init_32 (fun _ => rfl) rfl rfl e21 ?_
  refine zr_aload_n C0 dX1_init_35 rfl 0 rfl ?_
  refine zr_sipush C0 (v := 900) dX1_init_36 (by decide) ?_
  obtain ⟨q22, h23, e24, hf⟩ := zbind2 hf
  refine zr_newa C0 (atype := .byte) (t := 2) q282 rfl (by decide) (fun _ => rfl) dX1_init_39 e24 ?_
  obtain ⟨h25, e26, hf⟩ := zbind hf
  refine zr_put C0 pl_X1_47_X1 dX1_init_41 (fun _ => rfl) rfl rfl e26 ?_
  refine zr_aload_n C0 dX1_init_44 rfl 0 rfl ?_
  obtain ⟨q27, h28, e29, hf⟩ := zbind2 hf
  refine zr_newc C0 (C := RJ19) (T := TJ19) (N := 4) rfl in_J19 tyJ19_ok q663 q664 q155 nw_J19 dX1_init_45 e29 ?_
  refine zr_dup C0 dX1_init_48 rfl ?_
  obtain ⟨x32, h30, e31, hf⟩ := zbind2 hf
  refine zr_callI_r C0 cv_X1_53 (m_J19_init C0.2.2.2.2.2.2.1 e31) (by decide) (by decide) rfl rfl (Nat.le_of_ble_eq_true rfl) dX1_init_49 rfl ?_
  obtain ⟨h33, e34, hf⟩ := zbind hf
  refine zr_put C0 pl_X1_54_X1 dX1_init_52 (fun _ => rfl) rfl rfl e34 ?_
  refine zr_aload_n C0 dX1_init_55 rfl 0 rfl ?_
  obtain ⟨q35, h36, e37, hf⟩ := zbind2 hf
  refine zr_newc C0 (C := RJ8) (T := TJ8) (N := 4) rfl in_J8 tyJ8_ok q683 q251 q139 nw_J8 dX1_init_56 e37 ?_
  refine zr_dup C0 dX1_init_59 rfl ?_
  refine zr_sipush C0 (v := 160) dX1_init_60 (by decide) ?_
  obtain ⟨x40, h38, e39, hf⟩ := zbind2 hf
  refine zr_callI_r C0 cv_X1_60 (m_J8_init_2 C0.2.2.2.2.2.2.1 e39) (by decide) (by decide) rfl rfl (Nat.le_of_ble_eq_true rfl) dX1_init_63 rfl ?_
  obtain ⟨h41, e42, hf⟩ := zbind hf
  refine zr_put C0 pl_X1_63_X1 dX1_init_66 (fun _ => rfl) rfl rfl e42 ?_
  refine zr_aload_n C0 dX1_init_69 rfl 0 rfl ?_
  refine zr_sipush C0 (v := 1500) dX1_init_70 (by decide) ?_
  obtain ⟨q43, h44, e45, hf⟩ := zbind2 hf
  refine zr_newa C0 (atype := .byte) (t := 2) q282 rfl (by decide) (fun _ => rfl) dX1_init_73 e45 ?_
  obtain ⟨h46, e47, hf⟩ := zbind hf
  refine zr_put C0 pl_X1_67_X1 dX1_init_75 (fun _ => rfl) rfl rfl e47 ?_
  refine zr_aload_n C0 dX1_init_78 rfl 0 rfl ?_
  refine zr_iconst C0 (v := -1) dX1_init_79 (by decide) ?_
  obtain ⟨h48, e49, hf⟩ := zbind hf
  refine zr_put C0 pl_X1_70_X1 dX1_init_80 (fun h => by cases h) rfl rfl e49 ?_
  refine zretW hf ?_
  exact zr_vret C0 rfl dX1_init_83 rfl
def f_X1_init (E : zE) (p0 : Nat) (h : zH) : Option (Unit × zH) := f_X1_init_b0 E p0 h
theorem m_X1_init {l : Launch} (hst : l.stackTraces = false) {D : zD} {B0 : Nat} {E : zE} {p0 : Nat} {h h' : zH} {r : Unit} (hf : f_X1_init E p0 h = some (r, h')) : zMet l yX1_init (ws_ yX1_init cX1_init 1 (Option.none : Option Jvm.ClassFile.FieldType)) 5 142 D B0 E [.ref p0] h (zoV r) h' := by
  unfold f_X1_init at hf
  refine zMet_of hst (by decide +kernel) rfl rfl (Nat.le_of_ble_eq_true rfl) (fun p e R s m below meth c C0 hno => ?_)
  show zW _ _ _ _ _ _ _ _ _ _ _ _ _ _ _ _ [(0, .ref p0)] []
  exact w_X1_init_b0 C0 hf
def f_J2_size_b0 (E : zE) (p0 : Nat) (h : zH) : Option (Int32 × zH) :=
  (gI h p0 15 2).bind fun x1 =>
  some (x1, h)
theorem w_J2_size_b0 (C0 : zCx p l e R s m args below meth c D B0 1 "java/util/ArrayList" cJ2_size E 1 60 (Option.some Jvm.ClassFile.FieldType.int) "size") {r : Int32} {h' : zH} {p0 : Nat} {h : zH} (hf : f_J2_size_b0 E p0 h = some (r, h')) : zW p l e R s m args below meth c D B0 1 (zEnd D B0 R below args s (zoI r) h') h 0 [(0, .ref p0)] [] := by
  unfold f_J2_size_b0 at hf
  refine zr_aload_n C0 dJ2_size_0 rfl 0 rfl ?_
  obtain ⟨x1, e2, hf⟩ := zbind hf
  refine zr_get C0 fl_J2_48_J2 dJ2_size_1 (zgI e2) ?_
  refine zretW hf ?_
  exact zr_iret C0 (ty := .int) rfl rfl dJ2_size_4 rfl
def f_J2_size (E : zE) (p0 : Nat) (h : zH) : Option (Int32 × zH) := f_J2_size_b0 E p0 h
theorem m_J2_size {l : Launch} (hst : l.stackTraces = false) {D : zD} {B0 : Nat} {E : zE} {p0 : Nat} {h h' : zH} {r : Int32} (hf : f_J2_size E p0 h = some (r, h')) : zMet l yJ2_size (ws_ yJ2_size cJ2_size 1 (Option.some Jvm.ClassFile.FieldType.int)) 1 60 D B0 E [.ref p0] h (zoI r) h' := by
  unfold f_J2_size at hf
  refine zMet_of hst (by decide +kernel) rfl rfl (Nat.le_of_ble_eq_true rfl) (fun p e R s m below meth c C0 hno => ?_)
  show zW _ _ _ _ _ _ _ _ _ _ _ _ _ _ _ _ [(0, .ref p0)] []
  exact w_J2_size_b0 C0 hf
def f_J19_size_b0 (E : zE) (p0 : Nat) (h : zH) : Option (Int32 × zH) :=
  (gI h p0 16 1).bind fun x1 =>
  some (x1, h)
theorem w_J19_size_b0 (C0 : zCx p l e R s m args below meth c D B0 1 "java/util/LinkedList" cJ19_size E 1 60 (Option.some Jvm.ClassFile.FieldType.int) "size") {r : Int32} {h' : zH} {p0 : Nat} {h : zH} (hf : f_J19_size_b0 E p0 h = some (r, h')) : zW p l e R s m args below meth c D B0 1 (zEnd D B0 R below args s (zoI r) h') h 0 [(0, .ref p0)] [] := by
  unfold f_J19_size_b0 at hf
  refine zr_aload_n C0 dJ19_size_0 rfl 0 rfl ?_
  obtain ⟨x1, e2, hf⟩ := zbind hf
  refine zr_get C0 fl_J19_7_J19 dJ19_size_1 (zgI e2) ?_
  refine zretW hf ?_
  exact zr_iret C0 (ty := .int) rfl rfl dJ19_size_4 rfl
def f_J19_size (E : zE) (p0 : Nat) (h : zH) : Option (Int32 × zH) := f_J19_size_b0 E p0 h
theorem m_J19_size {l : Launch} (hst : l.stackTraces = false) {D : zD} {B0 : Nat} {E : zE} {p0 : Nat} {h h' : zH} {r : Int32} (hf : f_J19_size E p0 h = some (r, h')) : zMet l yJ19_size (ws_ yJ19_size cJ19_size 1 (Option.some Jvm.ClassFile.FieldType.int)) 1 60 D B0 E [.ref p0] h (zoI r) h' := by
  unfold f_J19_size at hf
  refine zMet_of hst (by decide +kernel) rfl rfl (Nat.le_of_ble_eq_true rfl) (fun p e R s m below meth c C0 hno => ?_)
  show zW _ _ _ _ _ _ _ _ _ _ _ _ _ _ _ _ [(0, .ref p0)] []
  exact w_J19_size_b0 C0 hf
def f_X1_count_b88 (E : zE) (s0 : Int32) (h : zH) : Option (Int32 × zH) :=
  some (s0, h)
theorem w_X1_count_b88 (C0 : zCx p l e R s m args below meth c D B0 2 "FranchiseLedger" cX1_count E 2 80 (Option.some Jvm.ClassFile.FieldType.int) "count") {r : Int32} {h' : zH} {s0 : Int32} {h : zH} (hf : f_X1_count_b88 E s0 h = some (r, h')) : zW p l e R s m args below meth c D B0 2 (zEnd D B0 R below args s (zoI r) h') h 88 [] [.int s0] := by
  unfold f_X1_count_b88 at hf
  refine zretW hf ?_
  exact zr_iret C0 (ty := .int) rfl rfl dX1_count_88 rfl
def f_X1_count_b0 (E : zE) (p0 : Nat) (p1 : Int32) (h : zH) : Option (Int32 × zH) :=
  if p1 = 0 then (
    (gR h p0 0 0).bind fun x2 =>
    (gR h x2 2 0).bind fun x4 =>
    (cko h x4 15).bind fun _ =>
    bnd2 (f_J2_size E x4 h) fun x9 h7 =>
    f_X1_count_b88 E x9 h7
  ) else (
  if p1 = 1 then (
    (gR h p0 0 1).bind fun x11 =>
    (gR h x11 4 0).bind fun x13 =>
    (cko h x13 15).bind fun _ =>
    bnd2 (f_J2_size E x13 h) fun x18 h16 =>
    f_X1_count_b88 E x18 h16
  ) else (
  if p1 = 2 then (
    (gR h p0 0 1).bind fun x20 =>
    (gR h x20 4 1).bind fun x22 =>
    (cko h x22 15).bind fun _ =>
    bnd2 (f_J2_size E x22 h) fun x27 h25 =>
    f_X1_count_b88 E x27 h25
  ) else (
  if p1 = 3 then (
    (gR h p0 0 4).bind fun x29 =>
    (cko h x29 16).bind fun _ =>
    bnd2 (f_J19_size E x29 h) fun x34 h32 =>
    f_X1_count_b88 E x34 h32
  ) else (
    f_X1_count_b88 E (-1 : Int32) h
  ))))
theorem w_X1_count_b0 (C0 : zCx p l e R s m args below meth c D B0 2 "FranchiseLedger" cX1_count E 2 80 (Option.some Jvm.ClassFile.FieldType.int) "count") {r : Int32} {h' : zH} {p0 : Nat} {p1 : Int32} {h : zH} (hf : f_X1_count_b0 E p0 p1 h = some (r, h')) : zW p l e R s m args below meth c D B0 2 (zEnd D B0 R below args s (zoI r) h') h 0 [(0, .ref p0), (1, .int p1)] [] := by
  unfold f_X1_count_b0 at hf
  refine zr_iload_n C0 dX1_count_0 rfl 1 rfl ?_
  rcases Decidable.em (p1 = 0) with c1 | c1
  · have hf := zif_t c1 hf
    refine zr_tableIn C0 (v := 0) (tgt := 32) dX1_count_1 c1 (by decide) (by decide) rfl (by decide) ?_
    refine zr_aload_n C0 dX1_count_32 rfl 0 rfl ?_
    obtain ⟨x2, e3, hf⟩ := zbind hf
    refine zr_get C0 fl_X1_30_X1 dX1_count_33 (zgR e3) ?_
    obtain ⟨x4, e5, hf⟩ := zbind hf
    refine zr_get C0 fl_X1_117_X2 dX1_count_36 (zgR e5) ?_
    obtain ⟨_, e6, hf⟩ := zbind hf
    obtain ⟨x9, h7, e8, hf⟩ := zbind2 hf
    refine zr_callF_r C0 cv_X1_78_J2 rfl (zcko e6) (m_J2_size C0.2.2.2.2.2.2.1 e8) (by decide) (by decide) rfl rfl (Nat.le_of_ble_eq_true rfl) dX1_count_39 rfl ?_
    refine zr_goto C0 (tgt := 88) dX1_count_44 (by decide) ?_
    refine zr_sub [] rfl ?_
    exact w_X1_count_b88 C0 hf
  have hf := zif_f c1 hf
  rcases Decidable.em (p1 = 1) with c10 | c10
  · have hf := zif_t c10 hf
    refine zr_tableIn C0 (v := 1) (tgt := 47) dX1_count_1 c10 (by decide) (by decide) rfl (by decide) ?_
    refine zr_aload_n C0 dX1_count_47 rfl 0 rfl ?_
    obtain ⟨x11, e12, hf⟩ := zbind hf
    refine zr_get C0 fl_X1_39_X1 dX1_count_48 (zgR e12) ?_
    obtain ⟨x13, e14, hf⟩ := zbind hf
    refine zr_get C0 fl_X1_74_X4 dX1_count_51 (zgR e14) ?_
    obtain ⟨_, e15, hf⟩ := zbind hf
    obtain ⟨x18, h16, e17, hf⟩ := zbind2 hf
    refine zr_callF_r C0 cv_X1_78_J2 rfl (zcko e15) (m_J2_size C0.2.2.2.2.2.2.1 e17) (by decide) (by decide) rfl rfl (Nat.le_of_ble_eq_true rfl) dX1_count_54 rfl ?_
    refine zr_goto C0 (tgt := 88) dX1_count_59 (by decide) ?_
    refine zr_sub [] rfl ?_
    exact w_X1_count_b88 C0 hf
  have hf := zif_f c10 hf
  rcases Decidable.em (p1 = 2) with c19 | c19
  · have hf := zif_t c19 hf
    refine zr_tableIn C0 (v := 2) (tgt := 62) dX1_count_1 c19 (by decide) (by decide) rfl (by decide) ?_
    refine zr_aload_n C0 dX1_count_62 rfl 0 rfl ?_
    obtain ⟨x20, e21, hf⟩ := zbind hf
    refine zr_get C0 fl_X1_39_X1 dX1_count_63 (zgR e21) ?_
    obtain ⟨x22, e23, hf⟩ := zbind hf
    refine zr_get C0 fl_X1_102_X4 dX1_count_66 (zgR e23) ?_
    obtain ⟨_, e24, hf⟩ := zbind hf
    obtain ⟨x27, h25, e26, hf⟩ := zbind2 hf
    refine zr_callF_r C0 cv_X1_78_J2 rfl (zcko e24) (m_J2_size C0.2.2.2.2.2.2.1 e26) (by decide) (by decide) rfl rfl (Nat.le_of_ble_eq_true rfl) dX1_count_69 rfl ?_
    refine zr_goto C0 (tgt := 88) dX1_count_74 (by decide) ?_
    refine zr_sub [] rfl ?_
    exact w_X1_count_b88 C0 hf
  have hf := zif_f c19 hf
  rcases Decidable.em (p1 = 3) with c28 | c28
  · have hf := zif_t c28 hf
    refine zr_tableIn C0 (v := 3) (tgt := 77) dX1_count_1 c28 (by decide) (by decide) rfl (by decide) ?_
    refine zr_aload_n C0 dX1_count_77 rfl 0 rfl ?_
    obtain ⟨x29, e30, hf⟩ := zbind hf
    refine zr_get C0 fl_X1_54_X1 dX1_count_78 (zgR e30) ?_
    obtain ⟨_, e31, hf⟩ := zbind hf
    obtain ⟨x34, h32, e33, hf⟩ := zbind2 hf
    refine zr_callV_r C0 cv_X1_120_J19 rfl (zcko e31) (m_J19_size C0.2.2.2.2.2.2.1 e33) (by decide) (by decide) rfl rfl (Nat.le_of_ble_eq_true rfl) dX1_count_81 rfl ?_
    refine zr_goto C0 (tgt := 88) dX1_count_84 (by decide) ?_
    refine zr_sub [] rfl ?_
    exact w_X1_count_b88 C0 hf
  have hf := zif_f c28 hf
  refine zr_tableOut C0 (tgt := 87) dX1_count_1 ?_ (by decide) ?_
  · have n0 := lv_neT (a := 0) c1 rfl; have n1 := lv_neT (a := 1) c10 rfl; have n2 := lv_neT (a := 2) c19 rfl; have n3 := lv_neT (a := 3) c28 rfl; omega
  refine zr_iconst C0 (v := -1) dX1_count_87 (by decide) ?_
  refine zr_sub [] rfl ?_
  exact w_X1_count_b88 C0 hf
def f_X1_count (E : zE) (p0 : Nat) (p1 : Int32) (h : zH) : Option (Int32 × zH) := f_X1_count_b0 E p0 p1 h
theorem m_X1_count {l : Launch} (hst : l.stackTraces = false) {D : zD} {B0 : Nat} {E : zE} {p0 : Nat} {p1 : Int32} {h h' : zH} {r : Int32} (hf : f_X1_count E p0 p1 h = some (r, h')) : zMet l yX1_count (ws_ yX1_count cX1_count 2 (Option.some Jvm.ClassFile.FieldType.int)) 2 80 D B0 E [.ref p0, .int p1] h (zoI r) h' := by
  unfold f_X1_count at hf
  refine zMet_of hst (by decide +kernel) rfl rfl (Nat.le_of_ble_eq_true rfl) (fun p e R s m below meth c C0 hno => ?_)
  show zW _ _ _ _ _ _ _ _ _ _ _ _ _ _ _ _ [(0, .ref p0), (1, .int p1)] []
  exact w_X1_count_b0 C0 hf
def f_X1_month_b0 (E : zE) (p0 : Nat) (h : zH) : Option (Int32 × zH) :=
  (gR h p0 0 1).bind fun x1 =>
  (gI h x1 4 5).bind fun x3 =>
  some (x3, h)
theorem w_X1_month_b0 (C0 : zCx p l e R s m args below meth c D B0 1 "FranchiseLedger" cX1_month E 1 60 (Option.some Jvm.ClassFile.FieldType.int) "month") {r : Int32} {h' : zH} {p0 : Nat} {h : zH} (hf : f_X1_month_b0 E p0 h = some (r, h')) : zW p l e R s m args below meth c D B0 1 (zEnd D B0 R below args s (zoI r) h') h 0 [(0, .ref p0)] [] := by
  unfold f_X1_month_b0 at hf
  refine zr_aload_n C0 dX1_month_0 rfl 0 rfl ?_
  obtain ⟨x1, e2, hf⟩ := zbind hf
  refine zr_get C0 fl_X1_39_X1 dX1_month_1 (zgR e2) ?_
  obtain ⟨x3, e4, hf⟩ := zbind hf
  refine zr_get C0 fl_X1_111_X4 dX1_month_4 (zgI e4) ?_
  refine zretW hf ?_
  exact zr_iret C0 (ty := .int) rfl rfl dX1_month_7 rfl
def f_X1_month (E : zE) (p0 : Nat) (h : zH) : Option (Int32 × zH) := f_X1_month_b0 E p0 h
theorem m_X1_month {l : Launch} (hst : l.stackTraces = false) {D : zD} {B0 : Nat} {E : zE} {p0 : Nat} {h h' : zH} {r : Int32} (hf : f_X1_month E p0 h = some (r, h')) : zMet l yX1_month (ws_ yX1_month cX1_month 1 (Option.some Jvm.ClassFile.FieldType.int)) 1 60 D B0 E [.ref p0] h (zoI r) h' := by
  unfold f_X1_month at hf
  refine zMet_of hst (by decide +kernel) rfl rfl (Nat.le_of_ble_eq_true rfl) (fun p e R s m below meth c C0 hno => ?_)
  show zW _ _ _ _ _ _ _ _ _ _ _ _ _ _ _ _ [(0, .ref p0)] []
  exact w_X1_month_b0 C0 hf
def f_J14_checkIndex_b9 (E : zE) (p0 : Int32) (p1 : Int32) (p2 : Option Nat) (h : zH) : Option (Int32 × zH) :=
  none
theorem w_J14_checkIndex_b9 (C0 : zCx p l e R s m args below meth c D B0 3 "jdk/internal/util/Preconditions" cJ14_checkIndex E 1 60 (Option.some Jvm.ClassFile.FieldType.int) "checkIndex") {r : Int32} {h' : zH} {p0 : Int32} {p1 : Int32} {p2 : Option Nat} {h : zH} (hf : f_J14_checkIndex_b9 E p0 p1 p2 h = some (r, h')) : zW p l e R s m args below meth c D B0 3 (zEnd D B0 R below args s (zoI r) h') h 9 [(0, .int p0), (1, .int p1), (2, va_rf p2)] [] := by
  unfold f_J14_checkIndex_b9 at hf
  refine zr_aload_nQ C0 dJ14_checkIndex_9 rfl 2 rfl ?_
  refine zr_iload_n C0 dJ14_checkIndex_10 rfl 0 rfl ?_
  refine zr_iload_n C0 dJ14_checkIndex_11 rfl 1 rfl ?_
  cases hf
def f_J14_checkIndex_b0 (E : zE) (p0 : Int32) (p1 : Int32) (p2 : Option Nat) (h : zH) : Option (Int32 × zH) :=
  if p0 < 0 then (
    f_J14_checkIndex_b9 E p0 p1 p2 h
  ) else (
    if p0 < p1 then (
      some (p0, h)
    ) else (
      f_J14_checkIndex_b9 E p0 p1 p2 h
    )
  )
theorem w_J14_checkIndex_b0 (C0 : zCx p l e R s m args below meth c D B0 3 "jdk/internal/util/Preconditions" cJ14_checkIndex E 1 60 (Option.some Jvm.ClassFile.FieldType.int) "checkIndex") {r : Int32} {h' : zH} {p0 : Int32} {p1 : Int32} {p2 : Option Nat} {h : zH} (hf : f_J14_checkIndex_b0 E p0 p1 p2 h = some (r, h')) : zW p l e R s m args below meth c D B0 3 (zEnd D B0 R below args s (zoI r) h') h 0 [(0, .int p0), (1, .int p1), (2, va_rf p2)] [] := by
  unfold f_J14_checkIndex_b0 at hf
  refine zr_iload_n C0 dJ14_checkIndex_0 rfl 0 rfl ?_
  refine zr_if_lt C0 (tgt := 9) dJ14_checkIndex_1 (by decide) (fun c1 => ?_) (fun c1 => ?_)
  · have hf := zif_t c1 hf
    exact w_J14_checkIndex_b9 C0 hf
  · have hf := zif_f c1 hf
    refine zr_iload_n C0 dJ14_checkIndex_4 rfl 0 rfl ?_
    refine zr_iload_n C0 dJ14_checkIndex_5 rfl 1 rfl ?_
    refine zr_icmp_lt C0 (tgt := 16) dJ14_checkIndex_6 (by decide) (fun c2 => ?_) (fun c2 => ?_)
    · have hf := zif_t c2 hf
      refine zr_iload_n C0 dJ14_checkIndex_16 rfl 0 rfl ?_
      refine zretW hf ?_
      exact zr_iret C0 (ty := .int) rfl rfl dJ14_checkIndex_17 rfl
    · have hf := zif_f c2 hf
      exact w_J14_checkIndex_b9 C0 hf
def f_J14_checkIndex (E : zE) (p0 : Int32) (p1 : Int32) (p2 : Option Nat) (h : zH) : Option (Int32 × zH) := f_J14_checkIndex_b0 E p0 p1 p2 h
theorem m_J14_checkIndex {l : Launch} (hst : l.stackTraces = false) {D : zD} {B0 : Nat} {E : zE} {p0 : Int32} {p1 : Int32} {p2 : Option Nat} {h h' : zH} {r : Int32} (hf : f_J14_checkIndex E p0 p1 p2 h = some (r, h')) : zMet l yJ14_checkIndex (ws_ yJ14_checkIndex cJ14_checkIndex 3 (Option.some Jvm.ClassFile.FieldType.int)) 1 60 D B0 E [.int p0, .int p1, va_rf p2] h (zoI r) h' := by
  unfold f_J14_checkIndex at hf
  refine zMet_of hst (by decide +kernel) rfl rfl (by cases p2 <;> exact Nat.le_of_ble_eq_true rfl) (fun p e R s m below meth c C0 hno => ?_)
  rw [show lv_args 0 [.int p0, .int p1, va_rf p2] = [(0, .int p0), (1, .int p1), (2, va_rf p2)] from (by cases p2 <;> rfl)]
  exact w_J14_checkIndex_b0 C0 hf
def f_J21_checkIndex_b0 (E : zE) (p0 : Int32) (p1 : Int32) (h : zH) : Option (Int32 × zH) :=
  bnd2 (f_J14_checkIndex E p0 p1 none h) fun x3 h1 =>
  some (x3, h1)
theorem w_J21_checkIndex_b0 (C0 : zCx p l e R s m args below meth c D B0 2 "java/util/Objects" cJ21_checkIndex E 2 82 (Option.some Jvm.ClassFile.FieldType.int) "checkIndex") {r : Int32} {h' : zH} {p0 : Int32} {p1 : Int32} {h : zH} (hf : f_J21_checkIndex_b0 E p0 p1 h = some (r, h')) : zW p l e R s m args below meth c D B0 2 (zEnd D B0 R below args s (zoI r) h') h 0 [(0, .int p0), (1, .int p1)] [] := by
  unfold f_J21_checkIndex_b0 at hf
  refine zr_iload_n C0 dJ21_checkIndex_0 rfl 0 rfl ?_
  refine zr_iload_n C0 dJ21_checkIndex_1 rfl 1 rfl ?_
  refine zr_null C0 dJ21_checkIndex_2 ?_
  obtain ⟨x3, h1, e2, hf⟩ := zbind2 hf
  refine zr_callS_r C0 cv_J21_105 (m_J14_checkIndex C0.2.2.2.2.2.2.1 e2) (by decide) (by decide) rfl rfl (Nat.le_of_ble_eq_true rfl) dJ21_checkIndex_3 rfl ?_
  refine zretW hf ?_
  exact zr_iret C0 (ty := .int) rfl rfl dJ21_checkIndex_6 rfl
def f_J21_checkIndex (E : zE) (p0 : Int32) (p1 : Int32) (h : zH) : Option (Int32 × zH) := f_J21_checkIndex_b0 E p0 p1 h
theorem m_J21_checkIndex {l : Launch} (hst : l.stackTraces = false) {D : zD} {B0 : Nat} {E : zE} {p0 : Int32} {p1 : Int32} {h h' : zH} {r : Int32} (hf : f_J21_checkIndex E p0 p1 h = some (r, h')) : zMet l yJ21_checkIndex (ws_ yJ21_checkIndex cJ21_checkIndex 2 (Option.some Jvm.ClassFile.FieldType.int)) 2 82 D B0 E [.int p0, .int p1] h (zoI r) h' := by
  unfold f_J21_checkIndex at hf
  refine zMet_of hst (by decide +kernel) rfl rfl (Nat.le_of_ble_eq_true rfl) (fun p e R s m below meth c C0 hno => ?_)
  show zW _ _ _ _ _ _ _ _ _ _ _ _ _ _ _ _ [(0, .int p0), (1, .int p1)] []
  exact w_J21_checkIndex_b0 C0 hf
def f_J2_elementData_b0 (E : zE) (p0 : Nat) (p1 : Int32) (h : zH) : Option (Nat × zH) :=
  (gR h p0 15 1).bind fun x1 =>
  (dR h x1 4 p1).bind fun x3 =>
  some (x3, h)
theorem w_J2_elementData_b0 (C0 : zCx p l e R s m args below meth c D B0 2 "java/util/ArrayList" cJ2_elementData E 1 60 (Option.some (Jvm.ClassFile.FieldType.object "java/lang/Object")) "elementData") {r : Nat} {h' : zH} {p0 : Nat} {p1 : Int32} {h : zH} (hf : f_J2_elementData_b0 E p0 p1 h = some (r, h')) : zW p l e R s m args below meth c D B0 2 (zEnd D B0 R below args s (zoR r) h') h 0 [(0, .ref p0), (1, .int p1)] [] := by
  unfold f_J2_elementData_b0 at hf
  refine zr_aload_n C0 dJ2_elementData_0 rfl 0 rfl ?_
  obtain ⟨x1, e2, hf⟩ := zbind hf
  refine zr_get C0 fl_J2_9_J2 dJ2_elementData_1 (zgR e2) ?_
  refine zr_iload_n C0 dJ2_elementData_4 rfl 1 rfl ?_
  obtain ⟨x3, e4, hf⟩ := zbind hf
  refine zr_aald C0 rfl dJ2_elementData_5 e4 ?_
  refine zretW hf ?_
  exact zr_aret C0 rfl (Or.inl ⟨_, rfl⟩) dJ2_elementData_6 rfl
def f_J2_elementData (E : zE) (p0 : Nat) (p1 : Int32) (h : zH) : Option (Nat × zH) := f_J2_elementData_b0 E p0 p1 h
theorem m_J2_elementData {l : Launch} (hst : l.stackTraces = false) {D : zD} {B0 : Nat} {E : zE} {p0 : Nat} {p1 : Int32} {h h' : zH} {r : Nat} (hf : f_J2_elementData E p0 p1 h = some (r, h')) : zMet l yJ2_elementData (ws_ yJ2_elementData cJ2_elementData 2 (Option.some (Jvm.ClassFile.FieldType.object "java/lang/Object"))) 1 60 D B0 E [.ref p0, .int p1] h (zoR r) h' := by
  unfold f_J2_elementData at hf
  refine zMet_of hst (by decide +kernel) rfl rfl (Nat.le_of_ble_eq_true rfl) (fun p e R s m below meth c C0 hno => ?_)
  show zW _ _ _ _ _ _ _ _ _ _ _ _ _ _ _ _ [(0, .ref p0), (1, .int p1)] []
  exact w_J2_elementData_b0 C0 hf
def f_J2_get_b0 (E : zE) (p0 : Nat) (p1 : Int32) (h : zH) : Option (Nat × zH) :=
  (gI h p0 15 2).bind fun x1 =>
  bnd2 (f_J21_checkIndex E p1 x1 h) fun x5 h3 =>
  (cko h3 p0 15).bind fun _ =>
  bnd2 (f_J2_elementData E p0 p1 h3) fun x9 h7 =>
  some (x9, h7)
theorem w_J2_get_b0 (C0 : zCx p l e R s m args below meth c D B0 2 "java/util/ArrayList" cJ2_get E 3 103 (Option.some (Jvm.ClassFile.FieldType.object "java/lang/Object")) "get") {r : Nat} {h' : zH} {p0 : Nat} {p1 : Int32} {h : zH} (hf : f_J2_get_b0 E p0 p1 h = some (r, h')) : zW p l e R s m args below meth c D B0 2 (zEnd D B0 R below args s (zoR r) h') h 0 [(0, .ref p0), (1, .int p1)] [] := by
  unfold f_J2_get_b0 at hf
  refine zr_iload_n C0 dJ2_get_0 rfl 1 rfl ?_
  refine zr_aload_n C0 dJ2_get_1 rfl 0 rfl ?_
  obtain ⟨x1, e2, hf⟩ := zbind hf
  refine zr_get C0 fl_J2_48_J2 dJ2_get_2 (zgI e2) ?_
  obtain ⟨x5, h3, e4, hf⟩ := zbind2 hf
  refine zr_callS_r C0 cv_J2_118 (m_J21_checkIndex C0.2.2.2.2.2.2.1 e4) (by decide) (by decide) rfl rfl (Nat.le_of_ble_eq_true rfl) dJ2_get_5 rfl ?_
  refine zr_pop C0 dJ2_get_8 rfl ?_
  refine zr_aload_n C0 dJ2_get_9 rfl 0 rfl ?_
  refine zr_iload_n C0 dJ2_get_10 rfl 1 rfl ?_
  obtain ⟨_, e6, hf⟩ := zbind hf
  obtain ⟨x9, h7, e8, hf⟩ := zbind2 hf
  refine zr_callV_r C0 cv_J2_123_J2 rfl (zcko e6) (m_J2_elementData C0.2.2.2.2.2.2.1 e8) (by decide) (by decide) rfl rfl (Nat.le_of_ble_eq_true rfl) dJ2_get_11 rfl ?_
  refine zretW hf ?_
  exact zr_aret C0 rfl (Or.inl ⟨_, rfl⟩) dJ2_get_14 rfl
def f_J2_get (E : zE) (p0 : Nat) (p1 : Int32) (h : zH) : Option (Nat × zH) := f_J2_get_b0 E p0 p1 h
theorem m_J2_get {l : Launch} (hst : l.stackTraces = false) {D : zD} {B0 : Nat} {E : zE} {p0 : Nat} {p1 : Int32} {h h' : zH} {r : Nat} (hf : f_J2_get E p0 p1 h = some (r, h')) : zMet l yJ2_get (ws_ yJ2_get cJ2_get 2 (Option.some (Jvm.ClassFile.FieldType.object "java/lang/Object"))) 3 103 D B0 E [.ref p0, .int p1] h (zoR r) h' := by
  unfold f_J2_get at hf
  refine zMet_of hst (by decide +kernel) rfl rfl (Nat.le_of_ble_eq_true rfl) (fun p e R s m below meth c C0 hno => ?_)
  show zW _ _ _ _ _ _ _ _ _ _ _ _ _ _ _ _ [(0, .ref p0), (1, .int p1)] []
  exact w_J2_get_b0 C0 hf
def f_X11_salesOf_l5 (E : zE) : Nat → Nat → Int32 → Int64 → Int32 → zH → Option (Int64 × zH)
  | 0, _, _, _, _, _ => none
  | n + 1, p0, p1, p2, p4, h =>
    if p1 ≤ p4 then (
      some (p2, h)
    ) else (
      (gR h p0 10 2).bind fun x2 =>
      (dL h x2 p4).bind fun x4 =>
      f_X11_salesOf_l5 E n p0 p1 (p2 + x4) (p4 + 1) h
    )
theorem w_X11_salesOf_l5 (C0 : zCx p l e R s m args below meth c D B0 5 "FranchiseLedger$Franchisee" cX11_salesOf E 1 60 (Option.some Jvm.ClassFile.FieldType.long) "salesOf") {r : Int64} {h' : zH} : ∀ (n : Nat) (p0 : Nat) (p1 : Int32) (p2 : Int64) (p4 : Int32) (h : zH), f_X11_salesOf_l5 E n p0 p1 p2 p4 h = some (r, h') → zW p l e R s m args below meth c D B0 5 (zEnd D B0 R below args s (zoL r) h') h 5 [(0, .ref p0), (1, .int p1), (2, .long p2), (4, .int p4)] [] := by
  intro n
  induction n with
  | zero =>
    intro p0 p1 p2 p4 h hf
    unfold f_X11_salesOf_l5 at hf
    cases hf
  | succ n ih =>
    intro p0 p1 p2 p4 h hf
    unfold f_X11_salesOf_l5 at hf
    refine zr_iload C0 dX11_salesOf_5 3 rfl ?_
    refine zr_iload_n C0 dX11_salesOf_7 rfl 1 rfl ?_
    refine zr_icmp_ge C0 (tgt := 27) dX11_salesOf_8 (by decide) (fun c1 => ?_) (fun c1 => ?_)
    · have hf := zif_t c1 hf
      refine zr_lload_n C0 dX11_salesOf_27 rfl 2 rfl ?_
      refine zretW hf ?_
      exact zr_lret C0 rfl dX11_salesOf_28 rfl
    · have hf := zif_f c1 hf
      refine zr_lload_n C0 dX11_salesOf_11 rfl 2 rfl ?_
      refine zr_aload_n C0 dX11_salesOf_12 rfl 0 rfl ?_
      obtain ⟨x2, e3, hf⟩ := zbind hf
      refine zr_get C0 fl_X11_24_X11 dX11_salesOf_13 (zgR e3) ?_
      refine zr_iload C0 dX11_salesOf_16 3 rfl ?_
      obtain ⟨x4, e5, hf⟩ := zbind hf
      refine zr_lald C0 dX11_salesOf_18 e5 ?_
      refine zr_ladd C0 dX11_salesOf_19 ?_
      refine zr_lstore_n (i := 2) (lv' := [(2, .long (p2 + x4)), (0, .ref p0), (1, .int p1), (4, .int p4)]) C0 dX11_salesOf_20 rfl (by decide) (by first | rfl | simp [zst1, zst2, zcat_rf]) ?_
      refine zr_iinc (lv' := [(4, .int (p4 + 1)), (2, .long (p2 + x4)), (0, .ref p0), (1, .int p1)]) C0 dX11_salesOf_21 3 rfl rfl (by decide) (by first | rfl | simp [zst1, zst2, zcat_rf]) ?_
      refine zr_goto C0 (tgt := 5) dX11_salesOf_24 (by decide) ?_
      refine zr_sub [2, 3, 1, 0] rfl ?_
      exact ih _ _ _ _ _ hf
def f_X11_salesOf_b0 (E : zE) (p0 : Nat) (p1 : Int32) (h : zH) : Option (Int64 × zH) :=
  f_X11_salesOf_l5 E E.1 p0 p1 (0 : Int64) (0 : Int32) h
theorem w_X11_salesOf_b0 (C0 : zCx p l e R s m args below meth c D B0 5 "FranchiseLedger$Franchisee" cX11_salesOf E 1 60 (Option.some Jvm.ClassFile.FieldType.long) "salesOf") {r : Int64} {h' : zH} {p0 : Nat} {p1 : Int32} {h : zH} (hf : f_X11_salesOf_b0 E p0 p1 h = some (r, h')) : zW p l e R s m args below meth c D B0 5 (zEnd D B0 R below args s (zoL r) h') h 0 [(0, .ref p0), (1, .int p1)] [] := by
  unfold f_X11_salesOf_b0 at hf
  refine zr_lconst C0 (v := 0) dX11_salesOf_0 (by decide) ?_
  refine zr_lstore_n (i := 2) (lv' := [(2, .long (0 : Int64)), (0, .ref p0), (1, .int p1)]) C0 dX11_salesOf_1 rfl (by decide) (by first | rfl | simp [zst1, zst2, zcat_rf]) ?_
  refine zr_iconst C0 (v := 0) dX11_salesOf_2 (by decide) ?_
  refine zr_istore (i := 4) (lv' := [(4, .int (0 : Int32)), (2, .long (0 : Int64)), (0, .ref p0), (1, .int p1)]) C0 dX11_salesOf_3 (by decide) (by first | rfl | simp [zst1, zst2, zcat_rf]) ?_
  refine zr_sub [2, 3, 1, 0] rfl ?_
  exact w_X11_salesOf_l5 C0 _ _ _ _ _ _ hf
def f_X11_salesOf (E : zE) (p0 : Nat) (p1 : Int32) (h : zH) : Option (Int64 × zH) := f_X11_salesOf_b0 E p0 p1 h
theorem m_X11_salesOf {l : Launch} (hst : l.stackTraces = false) {D : zD} {B0 : Nat} {E : zE} {p0 : Nat} {p1 : Int32} {h h' : zH} {r : Int64} (hf : f_X11_salesOf E p0 p1 h = some (r, h')) : zMet l yX11_salesOf (ws_ yX11_salesOf cX11_salesOf 5 (Option.some Jvm.ClassFile.FieldType.long)) 1 60 D B0 E [.ref p0, .int p1] h (zoL r) h' := by
  unfold f_X11_salesOf at hf
  refine zMet_of hst (by decide +kernel) rfl rfl (Nat.le_of_ble_eq_true rfl) (fun p e R s m below meth c C0 hno => ?_)
  show zW _ _ _ _ _ _ _ _ _ _ _ _ _ _ _ _ [(0, .ref p0), (1, .int p1)] []
  exact w_X11_salesOf_b0 C0 hf
def f_X1_ranked_b125 (E : zE) (k2 : Nat → Int32 → Int32 → zH → Option (Int32 × zH)) (k51 : Nat → Int32 → Int32 → Int32 → Int64 → Int32 → zH → Option (Int32 × zH)) (p0 : Nat) (p1 : Int32) (p2 : Int32) (p4 : Int64) (p6 : Int32) (s0 : Int32) (s1 : Int32) (h : zH) : Option (Int32 × zH) :=
  k51 p0 p1 p2 (s0 + s1) p4 (p6 + 1) h
theorem w_X1_ranked_b125 (C0 : zCx p l e R s m args below meth c D B0 9 "FranchiseLedger" cX1_ranked E 4 124 (Option.some Jvm.ClassFile.FieldType.int) "ranked") {r : Int32} {h' : zH} {k2 : Nat → Int32 → Int32 → zH → Option (Int32 × zH)} (hk2 : ∀ (p0 : Nat) (p1 : Int32) (p2 : Int32) (h : zH), k2 p0 p1 p2 h = some (r, h') → zW p l e R s m args below meth c D B0 9 (zEnd D B0 R below args s (zoI r) h') h 2 [(0, .ref p0), (1, .int p1), (2, .int p2)] []) {k51 : Nat → Int32 → Int32 → Int32 → Int64 → Int32 → zH → Option (Int32 × zH)} (hk51 : ∀ (p0 : Nat) (p1 : Int32) (p2 : Int32) (p3 : Int32) (p4 : Int64) (p6 : Int32) (h : zH), k51 p0 p1 p2 p3 p4 p6 h = some (r, h') → zW p l e R s m args below meth c D B0 9 (zEnd D B0 R below args s (zoI r) h') h 51 [(0, .ref p0), (1, .int p1), (2, .int p2), (3, .int p3), (4, .long p4), (6, .int p6)] []) {p0 : Nat} {p1 : Int32} {p2 : Int32} {p4 : Int64} {p6 : Int32} {s0 : Int32} {s1 : Int32} {h : zH} (hf : f_X1_ranked_b125 E k2 k51 p0 p1 p2 p4 p6 s0 s1 h = some (r, h')) : zW p l e R s m args below meth c D B0 9 (zEnd D B0 R below args s (zoI r) h') h 125 [(0, .ref p0), (1, .int p1), (2, .int p2), (4, .long p4), (6, .int p6)] [.int s1, .int s0] := by
  unfold f_X1_ranked_b125 at hf
  refine zr_iadd C0 dX1_ranked_125 ?_
  refine zr_istore_n (i := 3) (lv' := [(3, .int (s0 + s1)), (0, .ref p0), (1, .int p1), (2, .int p2), (4, .long p4), (6, .int p6)]) C0 dX1_ranked_126 rfl (by decide) (by first | rfl | simp [zst1, zst2, zcat_rf]) ?_
  refine zr_iinc (lv' := [(6, .int (p6 + 1)), (3, .int (s0 + s1)), (0, .ref p0), (1, .int p1), (2, .int p2), (4, .long p4)]) C0 dX1_ranked_127 5 rfl rfl (by decide) (by first | rfl | simp [zst1, zst2, zcat_rf]) ?_
  refine zr_goto C0 (tgt := 51) dX1_ranked_130 (by decide) ?_
  refine zr_sub [2, 3, 4, 1, 5, 0] rfl ?_
  exact hk51 _ _ _ _ _ _ _ hf
def f_X1_ranked_b120 (E : zE) (k2 : Nat → Int32 → Int32 → zH → Option (Int32 × zH)) (k51 : Nat → Int32 → Int32 → Int32 → Int64 → Int32 → zH → Option (Int32 × zH)) (p0 : Nat) (p1 : Int32) (p2 : Int32) (p4 : Int64) (p6 : Int32) (s0 : Int32) (h : zH) : Option (Int32 × zH) :=
  f_X1_ranked_b125 E k2 k51 p0 p1 p2 p4 p6 s0 (1 : Int32) h
theorem w_X1_ranked_b120 (C0 : zCx p l e R s m args below meth c D B0 9 "FranchiseLedger" cX1_ranked E 4 124 (Option.some Jvm.ClassFile.FieldType.int) "ranked") {r : Int32} {h' : zH} {k2 : Nat → Int32 → Int32 → zH → Option (Int32 × zH)} (hk2 : ∀ (p0 : Nat) (p1 : Int32) (p2 : Int32) (h : zH), k2 p0 p1 p2 h = some (r, h') → zW p l e R s m args below meth c D B0 9 (zEnd D B0 R below args s (zoI r) h') h 2 [(0, .ref p0), (1, .int p1), (2, .int p2)] []) {k51 : Nat → Int32 → Int32 → Int32 → Int64 → Int32 → zH → Option (Int32 × zH)} (hk51 : ∀ (p0 : Nat) (p1 : Int32) (p2 : Int32) (p3 : Int32) (p4 : Int64) (p6 : Int32) (h : zH), k51 p0 p1 p2 p3 p4 p6 h = some (r, h') → zW p l e R s m args below meth c D B0 9 (zEnd D B0 R below args s (zoI r) h') h 51 [(0, .ref p0), (1, .int p1), (2, .int p2), (3, .int p3), (4, .long p4), (6, .int p6)] []) {p0 : Nat} {p1 : Int32} {p2 : Int32} {p4 : Int64} {p6 : Int32} {s0 : Int32} {h : zH} (hf : f_X1_ranked_b120 E k2 k51 p0 p1 p2 p4 p6 s0 h = some (r, h')) : zW p l e R s m args below meth c D B0 9 (zEnd D B0 R below args s (zoI r) h') h 120 [(0, .ref p0), (1, .int p1), (2, .int p2), (4, .long p4), (6, .int p6)] [.int s0] := by
  unfold f_X1_ranked_b120 at hf
  refine zr_iconst C0 (v := 1) dX1_ranked_120 (by decide) ?_
  refine zr_goto C0 (tgt := 125) dX1_ranked_121 (by decide) ?_
  exact w_X1_ranked_b125 C0 hk2 hk51 hf
def f_X1_ranked_b124 (E : zE) (k2 : Nat → Int32 → Int32 → zH → Option (Int32 × zH)) (k51 : Nat → Int32 → Int32 → Int32 → Int64 → Int32 → zH → Option (Int32 × zH)) (p0 : Nat) (p1 : Int32) (p2 : Int32) (p4 : Int64) (p6 : Int32) (s0 : Int32) (h : zH) : Option (Int32 × zH) :=
  f_X1_ranked_b125 E k2 k51 p0 p1 p2 p4 p6 s0 (0 : Int32) h
theorem w_X1_ranked_b124 (C0 : zCx p l e R s m args below meth c D B0 9 "FranchiseLedger" cX1_ranked E 4 124 (Option.some Jvm.ClassFile.FieldType.int) "ranked") {r : Int32} {h' : zH} {k2 : Nat → Int32 → Int32 → zH → Option (Int32 × zH)} (hk2 : ∀ (p0 : Nat) (p1 : Int32) (p2 : Int32) (h : zH), k2 p0 p1 p2 h = some (r, h') → zW p l e R s m args below meth c D B0 9 (zEnd D B0 R below args s (zoI r) h') h 2 [(0, .ref p0), (1, .int p1), (2, .int p2)] []) {k51 : Nat → Int32 → Int32 → Int32 → Int64 → Int32 → zH → Option (Int32 × zH)} (hk51 : ∀ (p0 : Nat) (p1 : Int32) (p2 : Int32) (p3 : Int32) (p4 : Int64) (p6 : Int32) (h : zH), k51 p0 p1 p2 p3 p4 p6 h = some (r, h') → zW p l e R s m args below meth c D B0 9 (zEnd D B0 R below args s (zoI r) h') h 51 [(0, .ref p0), (1, .int p1), (2, .int p2), (3, .int p3), (4, .long p4), (6, .int p6)] []) {p0 : Nat} {p1 : Int32} {p2 : Int32} {p4 : Int64} {p6 : Int32} {s0 : Int32} {h : zH} (hf : f_X1_ranked_b124 E k2 k51 p0 p1 p2 p4 p6 s0 h = some (r, h')) : zW p l e R s m args below meth c D B0 9 (zEnd D B0 R below args s (zoI r) h') h 124 [(0, .ref p0), (1, .int p1), (2, .int p2), (4, .long p4), (6, .int p6)] [.int s0] := by
  unfold f_X1_ranked_b124 at hf
  refine zr_iconst C0 (v := 0) dX1_ranked_124 (by decide) ?_
  exact w_X1_ranked_b125 C0 hk2 hk51 hf
def f_X1_ranked_l51 (E : zE) (k2 : Nat → Int32 → Int32 → zH → Option (Int32 × zH)) : Nat → Nat → Int32 → Int32 → Int32 → Int64 → Int32 → zH → Option (Int32 × zH)
  | 0, _, _, _, _, _, _, _ => none
  | n + 1, p0, p1, p2, p3, p4, p6, h =>
    (gR h p0 0 1).bind fun x1 =>
    (gR h x1 4 0).bind fun x3 =>
    (cko h x3 15).bind fun _ =>
    bnd2 (f_J2_size E x3 h) fun x8 h6 =>
    if x8 ≤ p6 then (
      if p3 = p1 then (
        some (p2, h6)
      ) else (
        k2 p0 p1 (p2 + 1) h6
      )
    ) else (
      (gR h6 p0 0 1).bind fun x11 =>
      (gR h6 x11 4 0).bind fun x13 =>
      (cko h6 x13 15).bind fun _ =>
      bnd2 (f_J2_get E x13 p6 h6) fun x18 h16 =>
      (cko h16 x18 10).bind fun _ =>
      (gR h16 p0 0 1).bind fun x20 =>
      (gI h16 x20 4 5).bind fun x22 =>
      (cko h16 x18 10).bind fun _ =>
      bnd2 (f_X11_salesOf E x18 x22 h16) fun x27 h25 =>
      if p4 < x27 then (
        f_X1_ranked_b120 E k2 (f_X1_ranked_l51 E k2 n) p0 p1 p2 p4 p6 p3 h25
      ) else (
        if x27 = p4 then (
          if p2 ≤ p6 then (
            f_X1_ranked_b124 E k2 (f_X1_ranked_l51 E k2 n) p0 p1 p2 p4 p6 p3 h25
          ) else (
            f_X1_ranked_b120 E k2 (f_X1_ranked_l51 E k2 n) p0 p1 p2 p4 p6 p3 h25
          )
        ) else (
          f_X1_ranked_b124 E k2 (f_X1_ranked_l51 E k2 n) p0 p1 p2 p4 p6 p3 h25
        )
      )
    )
theorem w_X1_ranked_l51 (C0 : zCx p l e R s m args below meth c D B0 9 "FranchiseLedger" cX1_ranked E 4 124 (Option.some Jvm.ClassFile.FieldType.int) "ranked") {r : Int32} {h' : zH} {k2 : Nat → Int32 → Int32 → zH → Option (Int32 × zH)} (hk2 : ∀ (p0 : Nat) (p1 : Int32) (p2 : Int32) (h : zH), k2 p0 p1 p2 h = some (r, h') → zW p l e R s m args below meth c D B0 9 (zEnd D B0 R below args s (zoI r) h') h 2 [(0, .ref p0), (1, .int p1), (2, .int p2)] []) : ∀ (n : Nat) (p0 : Nat) (p1 : Int32) (p2 : Int32) (p3 : Int32) (p4 : Int64) (p6 : Int32) (h : zH), f_X1_ranked_l51 E k2 n p0 p1 p2 p3 p4 p6 h = some (r, h') → zW p l e R s m args below meth c D B0 9 (zEnd D B0 R below args s (zoI r) h') h 51 [(0, .ref p0), (1, .int p1), (2, .int p2), (3, .int p3), (4, .long p4), (6, .int p6)] [] := by
  intro n
  induction n with
  | zero =>
    intro p0 p1 p2 p3 p4 p6 h hf
    unfold f_X1_ranked_l51 at hf
    cases hf
  | succ n ih =>
    intro p0 p1 p2 p3 p4 p6 h hf
    unfold f_X1_ranked_l51 at hf
    refine zr_iload C0 dX1_ranked_51 5 rfl ?_
    refine zr_aload_n C0 dX1_ranked_53 rfl 0 rfl ?_
    obtain ⟨x1, e2, hf⟩ := zbind hf
    refine zr_get C0 fl_X1_39_X1 dX1_ranked_54 (zgR e2) ?_
    obtain ⟨x3, e4, hf⟩ := zbind hf
    refine zr_get C0 fl_X1_74_X4 dX1_ranked_57 (zgR e4) ?_
    obtain ⟨_, e5, hf⟩ := zbind hf
    obtain ⟨x8, h6, e7, hf⟩ := zbind2 hf
    refine zr_callF_r C0 cv_X1_78_J2 rfl (zcko e5) (m_J2_size C0.2.2.2.2.2.2.1 e7) (by decide) (by decide) rfl rfl (Nat.le_of_ble_eq_true rfl) dX1_ranked_60 rfl ?_
    refine zr_icmp_ge C0 (tgt := 133) dX1_ranked_65 (by decide) (fun c9 => ?_) (fun c9 => ?_)
    · have hf := zif_t c9 hf
      refine zr_iload_n C0 dX1_ranked_133 rfl 3 rfl ?_
      refine zr_iload_n C0 dX1_ranked_134 rfl 1 rfl ?_
      refine zr_icmp_ne C0 (tgt := 140) dX1_ranked_135 (by decide) (fun c10 => ?_) (fun c10 => ?_)
      · have hf := zif_f c10 hf
        refine zr_iinc (lv' := [(2, .int (p2 + 1)), (0, .ref p0), (1, .int p1), (3, .int p3), (4, .long p4), (6, .int p6)]) C0 dX1_ranked_140 2 rfl rfl (by decide) (by first | rfl | simp [zst1, zst2, zcat_rf]) ?_
        refine zr_goto C0 (tgt := 2) dX1_ranked_143 (by decide) ?_
        refine zr_sub [1, 2, 0] rfl ?_
        exact hk2 _ _ _ _ hf
      · have hf := zif_t c10 hf
        refine zr_iload_n C0 dX1_ranked_138 rfl 2 rfl ?_
        refine zretW hf ?_
        exact zr_iret C0 (ty := .int) rfl rfl dX1_ranked_139 rfl
    · have hf := zif_f c9 hf
      refine zr_aload_n C0 dX1_ranked_68 rfl 0 rfl ?_
      obtain ⟨x11, e12, hf⟩ := zbind hf
      refine zr_get C0 fl_X1_39_X1 dX1_ranked_69 (zgR e12) ?_
      obtain ⟨x13, e14, hf⟩ := zbind hf
      refine zr_get C0 fl_X1_74_X4 dX1_ranked_72 (zgR e14) ?_
      refine zr_iload C0 dX1_ranked_75 5 rfl ?_
      obtain ⟨_, e15, hf⟩ := zbind hf
      obtain ⟨x18, h16, e17, hf⟩ := zbind2 hf
      refine zr_callF_r C0 cv_X1_96_J2 rfl (zcko e15) (m_J2_get C0.2.2.2.2.2.2.1 e17) (by decide) (by decide) rfl rfl (Nat.le_of_ble_eq_true rfl) dX1_ranked_77 rfl ?_
      obtain ⟨_, e19, hf⟩ := zbind hf
      refine zr_castS C0 (ci := 10) rfl (zcko e19) q815 dX1_ranked_82 ?_
      refine zr_aload_n C0 dX1_ranked_85 rfl 0 rfl ?_
      obtain ⟨x20, e21, hf⟩ := zbind hf
      refine zr_get C0 fl_X1_39_X1 dX1_ranked_86 (zgR e21) ?_
      obtain ⟨x22, e23, hf⟩ := zbind hf
      refine zr_get C0 fl_X1_111_X4 dX1_ranked_89 (zgI e23) ?_
      obtain ⟨_, e24, hf⟩ := zbind hf
      obtain ⟨x27, h25, e26, hf⟩ := zbind2 hf
      refine zr_callV_r C0 cv_X1_286_X11 rfl (zcko e24) (m_X11_salesOf C0.2.2.2.2.2.2.1 e26) (by decide) (by decide) rfl rfl (Nat.le_of_ble_eq_true rfl) dX1_ranked_92 rfl ?_
      refine zr_lstore (i := 7) (lv' := [(7, .long x27), (0, .ref p0), (1, .int p1), (2, .int p2), (3, .int p3), (4, .long p4), (6, .int p6)]) C0 dX1_ranked_95 (by decide) (by first | rfl | simp [zst1, zst2, zcat_rf]) ?_
      refine zr_iload_n C0 dX1_ranked_97 rfl 4 rfl ?_
      refine zr_lload C0 dX1_ranked_98 0 rfl ?_
      refine zr_lload C0 dX1_ranked_100 5 rfl ?_
      refine zr_lcmp C0 dX1_ranked_102 ?_
      refine zr_if_gt C0 (tgt := 120) dX1_ranked_103 (by decide) (fun c28 => ?_) (fun c28 => ?_)
      · have hf := zif_t (zl_gt.mp c28) hf
        refine zr_sub [1, 2, 3, 5, 6] rfl ?_
        exact w_X1_ranked_b120 C0 hk2 ih hf
      · have hf := zif_f (zl_gtn.mp c28) hf
        refine zr_lload C0 dX1_ranked_106 0 rfl ?_
        refine zr_lload C0 dX1_ranked_108 5 rfl ?_
        refine zr_lcmp C0 dX1_ranked_110 ?_
        refine zr_if_ne C0 (tgt := 124) dX1_ranked_111 (by decide) (fun c29 => ?_) (fun c29 => ?_)
        · have hf := zif_f (zl_ne.mp c29) hf
          refine zr_sub [1, 2, 3, 5, 6] rfl ?_
          exact w_X1_ranked_b124 C0 hk2 ih hf
        · have hf := zif_t (zl_nen.mp c29) hf
          refine zr_iload C0 dX1_ranked_114 6 rfl ?_
          refine zr_iload_n C0 dX1_ranked_116 rfl 3 rfl ?_
          refine zr_icmp_ge C0 (tgt := 124) dX1_ranked_117 (by decide) (fun c30 => ?_) (fun c30 => ?_)
          · have hf := zif_t c30 hf
            refine zr_sub [1, 2, 3, 5, 6] rfl ?_
            exact w_X1_ranked_b124 C0 hk2 ih hf
          · have hf := zif_f c30 hf
            refine zr_sub [1, 2, 3, 5, 6] rfl ?_
            exact w_X1_ranked_b120 C0 hk2 ih hf
def f_X1_ranked_l2 (E : zE) : Nat → Nat → Int32 → Int32 → zH → Option (Int32 × zH)
  | 0, _, _, _, _ => none
  | n + 1, p0, p1, p2, h =>
    (gR h p0 0 1).bind fun x1 =>
    (gR h x1 4 0).bind fun x3 =>
    (cko h x3 15).bind fun _ =>
    bnd2 (f_J2_size E x3 h) fun x8 h6 =>
    if x8 ≤ p2 then (
      some ((-1 : Int32), h6)
    ) else (
      (gR h6 p0 0 1).bind fun x10 =>
      (gR h6 x10 4 0).bind fun x12 =>
      (cko h6 x12 15).bind fun _ =>
      bnd2 (f_J2_get E x12 p2 h6) fun x17 h15 =>
      (cko h15 x17 10).bind fun _ =>
      (gR h15 p0 0 1).bind fun x19 =>
      (gI h15 x19 4 5).bind fun x21 =>
      (cko h15 x17 10).bind fun _ =>
      bnd2 (f_X11_salesOf E x17 x21 h15) fun x26 h24 =>
      f_X1_ranked_l51 E (f_X1_ranked_l2 E n) E.1 p0 p1 p2 (0 : Int32) x26 (0 : Int32) h24
    )
theorem w_X1_ranked_l2 (C0 : zCx p l e R s m args below meth c D B0 9 "FranchiseLedger" cX1_ranked E 4 124 (Option.some Jvm.ClassFile.FieldType.int) "ranked") {r : Int32} {h' : zH} : ∀ (n : Nat) (p0 : Nat) (p1 : Int32) (p2 : Int32) (h : zH), f_X1_ranked_l2 E n p0 p1 p2 h = some (r, h') → zW p l e R s m args below meth c D B0 9 (zEnd D B0 R below args s (zoI r) h') h 2 [(0, .ref p0), (1, .int p1), (2, .int p2)] [] := by
  intro n
  induction n with
  | zero =>
    intro p0 p1 p2 h hf
    unfold f_X1_ranked_l2 at hf
    cases hf
  | succ n ih =>
    intro p0 p1 p2 h hf
    unfold f_X1_ranked_l2 at hf
    refine zr_iload_n C0 dX1_ranked_2 rfl 2 rfl ?_
    refine zr_aload_n C0 dX1_ranked_3 rfl 0 rfl ?_
    obtain ⟨x1, e2, hf⟩ := zbind hf
    refine zr_get C0 fl_X1_39_X1 dX1_ranked_4 (zgR e2) ?_
    obtain ⟨x3, e4, hf⟩ := zbind hf
    refine zr_get C0 fl_X1_74_X4 dX1_ranked_7 (zgR e4) ?_
    obtain ⟨_, e5, hf⟩ := zbind hf
    obtain ⟨x8, h6, e7, hf⟩ := zbind2 hf
    refine zr_callF_r C0 cv_X1_78_J2 rfl (zcko e5) (m_J2_size C0.2.2.2.2.2.2.1 e7) (by decide) (by decide) rfl rfl (Nat.le_of_ble_eq_true rfl) dX1_ranked_10 rfl ?_
    refine zr_icmp_ge C0 (tgt := 146) dX1_ranked_15 (by decide) (fun c9 => ?_) (fun c9 => ?_)
    · have hf := zif_t c9 hf
      refine zr_iconst C0 (v := -1) dX1_ranked_146 (by decide) ?_
      refine zretW hf ?_
      exact zr_iret C0 (ty := .int) rfl rfl dX1_ranked_147 rfl
    · have hf := zif_f c9 hf
      refine zr_iconst C0 (v := 0) dX1_ranked_18 (by decide) ?_
      refine zr_istore_n (i := 3) (lv' := [(3, .int (0 : Int32)), (0, .ref p0), (1, .int p1), (2, .int p2)]) C0 dX1_ranked_19 rfl (by decide) (by first | rfl | simp [zst1, zst2, zcat_rf]) ?_
      refine zr_aload_n C0 dX1_ranked_20 rfl 1 rfl ?_
      obtain ⟨x10, e11, hf⟩ := zbind hf
      refine zr_get C0 fl_X1_39_X1 dX1_ranked_21 (zgR e11) ?_
      obtain ⟨x12, e13, hf⟩ := zbind hf
      refine zr_get C0 fl_X1_74_X4 dX1_ranked_24 (zgR e13) ?_
      refine zr_iload_n C0 dX1_ranked_27 rfl 3 rfl ?_
      obtain ⟨_, e14, hf⟩ := zbind hf
      obtain ⟨x17, h15, e16, hf⟩ := zbind2 hf
      refine zr_callF_r C0 cv_X1_96_J2 rfl (zcko e14) (m_J2_get C0.2.2.2.2.2.2.1 e16) (by decide) (by decide) rfl rfl (Nat.le_of_ble_eq_true rfl) dX1_ranked_28 rfl ?_
      obtain ⟨_, e18, hf⟩ := zbind hf
      refine zr_castS C0 (ci := 10) rfl (zcko e18) q815 dX1_ranked_33 ?_
      refine zr_aload_n C0 dX1_ranked_36 rfl 1 rfl ?_
      obtain ⟨x19, e20, hf⟩ := zbind hf
      refine zr_get C0 fl_X1_39_X1 dX1_ranked_37 (zgR e20) ?_
      obtain ⟨x21, e22, hf⟩ := zbind hf
      refine zr_get C0 fl_X1_111_X4 dX1_ranked_40 (zgI e22) ?_
      obtain ⟨_, e23, hf⟩ := zbind hf
      obtain ⟨x26, h24, e25, hf⟩ := zbind2 hf
      refine zr_callV_r C0 cv_X1_286_X11 rfl (zcko e23) (m_X11_salesOf C0.2.2.2.2.2.2.1 e25) (by decide) (by decide) rfl rfl (Nat.le_of_ble_eq_true rfl) dX1_ranked_43 rfl ?_
      refine zr_lstore (i := 4) (lv' := [(4, .long x26), (3, .int (0 : Int32)), (0, .ref p0), (1, .int p1), (2, .int p2)]) C0 dX1_ranked_46 (by decide) (by first | rfl | simp [zst1, zst2, zcat_rf]) ?_
      refine zr_iconst C0 (v := 0) dX1_ranked_48 (by decide) ?_
      refine zr_istore (i := 6) (lv' := [(6, .int (0 : Int32)), (4, .long x26), (3, .int (0 : Int32)), (0, .ref p0), (1, .int p1), (2, .int p2)]) C0 dX1_ranked_49 (by decide) (by first | rfl | simp [zst1, zst2, zcat_rf]) ?_
      refine zr_sub [3, 4, 5, 2, 1, 0] rfl ?_
      exact w_X1_ranked_l51 C0 ih _ _ _ _ _ _ _ _ hf
def f_X1_ranked_b0 (E : zE) (p0 : Nat) (p1 : Int32) (h : zH) : Option (Int32 × zH) :=
  f_X1_ranked_l2 E E.1 p0 p1 (0 : Int32) h
theorem w_X1_ranked_b0 (C0 : zCx p l e R s m args below meth c D B0 9 "FranchiseLedger" cX1_ranked E 4 124 (Option.some Jvm.ClassFile.FieldType.int) "ranked") {r : Int32} {h' : zH} {p0 : Nat} {p1 : Int32} {h : zH} (hf : f_X1_ranked_b0 E p0 p1 h = some (r, h')) : zW p l e R s m args below meth c D B0 9 (zEnd D B0 R below args s (zoI r) h') h 0 [(0, .ref p0), (1, .int p1)] [] := by
  unfold f_X1_ranked_b0 at hf
  refine zr_iconst C0 (v := 0) dX1_ranked_0 (by decide) ?_
  refine zr_istore_n (i := 2) (lv' := [(2, .int (0 : Int32)), (0, .ref p0), (1, .int p1)]) C0 dX1_ranked_1 rfl (by decide) (by first | rfl | simp [zst1, zst2, zcat_rf]) ?_
  refine zr_sub [1, 2, 0] rfl ?_
  exact w_X1_ranked_l2 C0 _ _ _ _ _ hf
def f_X1_ranked (E : zE) (p0 : Nat) (p1 : Int32) (h : zH) : Option (Int32 × zH) := f_X1_ranked_b0 E p0 p1 h
theorem m_X1_ranked {l : Launch} (hst : l.stackTraces = false) {D : zD} {B0 : Nat} {E : zE} {p0 : Nat} {p1 : Int32} {h h' : zH} {r : Int32} (hf : f_X1_ranked E p0 p1 h = some (r, h')) : zMet l yX1_ranked (ws_ yX1_ranked cX1_ranked 9 (Option.some Jvm.ClassFile.FieldType.int)) 4 124 D B0 E [.ref p0, .int p1] h (zoI r) h' := by
  unfold f_X1_ranked at hf
  refine zMet_of hst (by decide +kernel) rfl rfl (Nat.le_of_ble_eq_true rfl) (fun p e R s m below meth c C0 hno => ?_)
  show zW _ _ _ _ _ _ _ _ _ _ _ _ _ _ _ _ [(0, .ref p0), (1, .int p1)] []
  exact w_X1_ranked_b0 C0 hf
def f_J12_max_2_b11 (E : zE) (s0 : Int64) (h : zH) : Option (Int64 × zH) :=
  some (s0, h)
theorem w_J12_max_2_b11 (C0 : zCx p l e R s m args below meth c D B0 4 "java/lang/Math" cJ12_max_2 E 1 60 (Option.some Jvm.ClassFile.FieldType.long) "max") {r : Int64} {h' : zH} {s0 : Int64} {h : zH} (hf : f_J12_max_2_b11 E s0 h = some (r, h')) : zW p l e R s m args below meth c D B0 4 (zEnd D B0 R below args s (zoL r) h') h 11 [] [.long s0] := by
  unfold f_J12_max_2_b11 at hf
  refine zretW hf ?_
  exact zr_lret C0 rfl dJ12_max_2_11 rfl
def f_J12_max_2_b0 (E : zE) (p0 : Int64) (p2 : Int64) (h : zH) : Option (Int64 × zH) :=
  if p0 < p2 then (
    f_J12_max_2_b11 E p2 h
  ) else (
    f_J12_max_2_b11 E p0 h
  )
theorem w_J12_max_2_b0 (C0 : zCx p l e R s m args below meth c D B0 4 "java/lang/Math" cJ12_max_2 E 1 60 (Option.some Jvm.ClassFile.FieldType.long) "max") {r : Int64} {h' : zH} {p0 : Int64} {p2 : Int64} {h : zH} (hf : f_J12_max_2_b0 E p0 p2 h = some (r, h')) : zW p l e R s m args below meth c D B0 4 (zEnd D B0 R below args s (zoL r) h') h 0 [(0, .long p0), (2, .long p2)] [] := by
  unfold f_J12_max_2_b0 at hf
  refine zr_lload_n C0 dJ12_max_2_0 rfl 0 rfl ?_
  refine zr_lload_n C0 dJ12_max_2_1 rfl 1 rfl ?_
  refine zr_lcmp C0 dJ12_max_2_2 ?_
  refine zr_if_lt C0 (tgt := 10) dJ12_max_2_3 (by decide) (fun c1 => ?_) (fun c1 => ?_)
  · have hf := zif_t (zl_lt.mp c1) hf
    refine zr_lload_n C0 dJ12_max_2_10 rfl 1 rfl ?_
    refine zr_sub [] rfl ?_
    exact w_J12_max_2_b11 C0 hf
  · have hf := zif_f (zl_ltn.mp c1) hf
    refine zr_lload_n C0 dJ12_max_2_6 rfl 0 rfl ?_
    refine zr_goto C0 (tgt := 11) dJ12_max_2_7 (by decide) ?_
    refine zr_sub [] rfl ?_
    exact w_J12_max_2_b11 C0 hf
def f_J12_max_2 (E : zE) (p0 : Int64) (p2 : Int64) (h : zH) : Option (Int64 × zH) := f_J12_max_2_b0 E p0 p2 h
theorem m_J12_max_2 {l : Launch} (hst : l.stackTraces = false) {D : zD} {B0 : Nat} {E : zE} {p0 : Int64} {p2 : Int64} {h h' : zH} {r : Int64} (hf : f_J12_max_2 E p0 p2 h = some (r, h')) : zMet l yJ12_max_2 (ws_ yJ12_max_2 cJ12_max_2 4 (Option.some Jvm.ClassFile.FieldType.long)) 1 60 D B0 E [.long p0, .long p2] h (zoL r) h' := by
  unfold f_J12_max_2 at hf
  refine zMet_ofF hst (by decide +kernel) rfl rfl (Nat.le_of_ble_eq_true rfl) (fun p e R s m below meth c C0 hno => ?_)
  show zW _ _ _ _ _ _ _ _ _ _ _ _ _ _ _ _ [(0, .long p0), (2, .long p2)] []
  exact w_J12_max_2_b0 C0 hf
def f_X1_totalOwed_l4 (E : zE) : Nat → Nat → Int64 → Int32 → zH → Option (Int64 × zH)
  | 0, _, _, _, _ => none
  | n + 1, p0, p1, p3, h =>
    (gR h p0 0 1).bind fun x1 =>
    (gR h x1 4 0).bind fun x3 =>
    (cko h x3 15).bind fun _ =>
    bnd2 (f_J2_size E x3 h) fun x8 h6 =>
    if x8 ≤ p3 then (
      some (p1, h6)
    ) else (
      (gR h6 p0 0 1).bind fun x10 =>
      (gR h6 x10 4 0).bind fun x12 =>
      (cko h6 x12 15).bind fun _ =>
      bnd2 (f_J2_get E x12 p3 h6) fun x17 h15 =>
      (cko h15 x17 10).bind fun _ =>
      (gL h15 x17 10 8).bind fun x19 =>
      bnd2 (f_J12_max_2 E (0 : Int64) x19 h15) fun x23 h21 =>
      f_X1_totalOwed_l4 E n p0 (p1 + x23) (p3 + 1) h21
    )
theorem w_X1_totalOwed_l4 (C0 : zCx p l e R s m args below meth c D B0 4 "FranchiseLedger" cX1_totalOwed E 4 124 (Option.some Jvm.ClassFile.FieldType.long) "totalOwed") {r : Int64} {h' : zH} : ∀ (n : Nat) (p0 : Nat) (p1 : Int64) (p3 : Int32) (h : zH), f_X1_totalOwed_l4 E n p0 p1 p3 h = some (r, h') → zW p l e R s m args below meth c D B0 4 (zEnd D B0 R below args s (zoL r) h') h 4 [(0, .ref p0), (1, .long p1), (3, .int p3)] [] := by
  intro n
  induction n with
  | zero =>
    intro p0 p1 p3 h hf
    unfold f_X1_totalOwed_l4 at hf
    cases hf
  | succ n ih =>
    intro p0 p1 p3 h hf
    unfold f_X1_totalOwed_l4 at hf
    refine zr_iload_n C0 dX1_totalOwed_4 rfl 2 rfl ?_
    refine zr_aload_n C0 dX1_totalOwed_5 rfl 0 rfl ?_
    obtain ⟨x1, e2, hf⟩ := zbind hf
    refine zr_get C0 fl_X1_39_X1 dX1_totalOwed_6 (zgR e2) ?_
    obtain ⟨x3, e4, hf⟩ := zbind hf
    refine zr_get C0 fl_X1_74_X4 dX1_totalOwed_9 (zgR e4) ?_
    obtain ⟨_, e5, hf⟩ := zbind hf
    obtain ⟨x8, h6, e7, hf⟩ := zbind2 hf
    refine zr_callF_r C0 cv_X1_78_J2 rfl (zcko e5) (m_J2_size C0.2.2.2.2.2.2.1 e7) (by decide) (by decide) rfl rfl (Nat.le_of_ble_eq_true rfl) dX1_totalOwed_12 rfl ?_
    refine zr_icmp_ge C0 (tgt := 52) dX1_totalOwed_17 (by decide) (fun c9 => ?_) (fun c9 => ?_)
    · have hf := zif_t c9 hf
      refine zr_lload_n C0 dX1_totalOwed_52 rfl 1 rfl ?_
      refine zretW hf ?_
      exact zr_lret C0 rfl dX1_totalOwed_53 rfl
    · have hf := zif_f c9 hf
      refine zr_lload_n C0 dX1_totalOwed_20 rfl 1 rfl ?_
      refine zr_lconst C0 (v := 0) dX1_totalOwed_21 (by decide) ?_
      refine zr_aload_n C0 dX1_totalOwed_22 rfl 0 rfl ?_
      obtain ⟨x10, e11, hf⟩ := zbind hf
      refine zr_get C0 fl_X1_39_X1 dX1_totalOwed_23 (zgR e11) ?_
      obtain ⟨x12, e13, hf⟩ := zbind hf
      refine zr_get C0 fl_X1_74_X4 dX1_totalOwed_26 (zgR e13) ?_
      refine zr_iload_n C0 dX1_totalOwed_29 rfl 2 rfl ?_
      obtain ⟨_, e14, hf⟩ := zbind hf
      obtain ⟨x17, h15, e16, hf⟩ := zbind2 hf
      refine zr_callF_r C0 cv_X1_96_J2 rfl (zcko e14) (m_J2_get C0.2.2.2.2.2.2.1 e16) (by decide) (by decide) rfl rfl (Nat.le_of_ble_eq_true rfl) dX1_totalOwed_30 rfl ?_
      obtain ⟨_, e18, hf⟩ := zbind hf
      refine zr_castS C0 (ci := 10) rfl (zcko e18) q815 dX1_totalOwed_35 ?_
      obtain ⟨x19, e20, hf⟩ := zbind hf
      refine zr_get C0 fl_X1_153_X11 dX1_totalOwed_38 (zgL e20) ?_
      obtain ⟨x23, h21, e22, hf⟩ := zbind2 hf
      refine zr_callS_r C0 cv_X1_307 (m_J12_max_2 C0.2.2.2.2.2.2.1 e22) (by decide) (by decide) rfl rfl (Nat.le_of_ble_eq_true rfl) dX1_totalOwed_41 rfl ?_
      refine zr_ladd C0 dX1_totalOwed_44 ?_
      refine zr_lstore_n (i := 1) (lv' := [(1, .long (p1 + x23)), (0, .ref p0), (3, .int p3)]) C0 dX1_totalOwed_45 rfl (by decide) (by first | rfl | simp [zst1, zst2, zcat_rf]) ?_
      refine zr_iinc (lv' := [(3, .int (p3 + 1)), (1, .long (p1 + x23)), (0, .ref p0)]) C0 dX1_totalOwed_46 2 rfl rfl (by decide) (by first | rfl | simp [zst1, zst2, zcat_rf]) ?_
      refine zr_goto C0 (tgt := 4) dX1_totalOwed_49 (by decide) ?_
      refine zr_sub [2, 1, 0] rfl ?_
      exact ih _ _ _ _ hf
def f_X1_totalOwed_b0 (E : zE) (p0 : Nat) (h : zH) : Option (Int64 × zH) :=
  f_X1_totalOwed_l4 E E.1 p0 (0 : Int64) (0 : Int32) h
theorem w_X1_totalOwed_b0 (C0 : zCx p l e R s m args below meth c D B0 4 "FranchiseLedger" cX1_totalOwed E 4 124 (Option.some Jvm.ClassFile.FieldType.long) "totalOwed") {r : Int64} {h' : zH} {p0 : Nat} {h : zH} (hf : f_X1_totalOwed_b0 E p0 h = some (r, h')) : zW p l e R s m args below meth c D B0 4 (zEnd D B0 R below args s (zoL r) h') h 0 [(0, .ref p0)] [] := by
  unfold f_X1_totalOwed_b0 at hf
  refine zr_lconst C0 (v := 0) dX1_totalOwed_0 (by decide) ?_
  refine zr_lstore_n (i := 1) (lv' := [(1, .long (0 : Int64)), (0, .ref p0)]) C0 dX1_totalOwed_1 rfl (by decide) (by first | rfl | simp [zst1, zst2, zcat_rf]) ?_
  refine zr_iconst C0 (v := 0) dX1_totalOwed_2 (by decide) ?_
  refine zr_istore_n (i := 3) (lv' := [(3, .int (0 : Int32)), (1, .long (0 : Int64)), (0, .ref p0)]) C0 dX1_totalOwed_3 rfl (by decide) (by first | rfl | simp [zst1, zst2, zcat_rf]) ?_
  refine zr_sub [2, 1, 0] rfl ?_
  exact w_X1_totalOwed_l4 C0 _ _ _ _ _ hf
def f_X1_totalOwed (E : zE) (p0 : Nat) (h : zH) : Option (Int64 × zH) := f_X1_totalOwed_b0 E p0 h
theorem m_X1_totalOwed {l : Launch} (hst : l.stackTraces = false) {D : zD} {B0 : Nat} {E : zE} {p0 : Nat} {h h' : zH} {r : Int64} (hf : f_X1_totalOwed E p0 h = some (r, h')) : zMet l yX1_totalOwed (ws_ yX1_totalOwed cX1_totalOwed 4 (Option.some Jvm.ClassFile.FieldType.long)) 4 124 D B0 E [.ref p0] h (zoL r) h' := by
  unfold f_X1_totalOwed at hf
  refine zMet_of hst (by decide +kernel) rfl rfl (Nat.le_of_ble_eq_true rfl) (fun p e R s m below meth c C0 hno => ?_)
  show zW _ _ _ _ _ _ _ _ _ _ _ _ _ _ _ _ [(0, .ref p0)] []
  exact w_X1_totalOwed_b0 C0 hf
def f_X4_contributions_l4 (E : zE) : Nat → Nat → Int64 → Int32 → zH → Option (Int64 × zH)
  | 0, _, _, _, _ => none
  | n + 1, p0, p1, p3, h =>
    (gR h p0 4 0).bind fun x1 =>
    (cko h x1 15).bind fun _ =>
    bnd2 (f_J2_size E x1 h) fun x6 h4 =>
    if x6 ≤ p3 then (
      some (p1, h4)
    ) else (
      (gR h4 p0 4 0).bind fun x8 =>
      (cko h4 x8 15).bind fun _ =>
      bnd2 (f_J2_get E x8 p3 h4) fun x13 h11 =>
      (cko h11 x13 10).bind fun _ =>
      (gL h11 x13 10 9).bind fun x15 =>
      f_X4_contributions_l4 E n p0 (p1 + x15) (p3 + 1) h11
    )
theorem w_X4_contributions_l4 (C0 : zCx p l e R s m args below meth c D B0 4 "FranchiseLedger$Books" cX4_contributions E 4 124 (Option.some Jvm.ClassFile.FieldType.long) "contributions") {r : Int64} {h' : zH} : ∀ (n : Nat) (p0 : Nat) (p1 : Int64) (p3 : Int32) (h : zH), f_X4_contributions_l4 E n p0 p1 p3 h = some (r, h') → zW p l e R s m args below meth c D B0 4 (zEnd D B0 R below args s (zoL r) h') h 4 [(0, .ref p0), (1, .long p1), (3, .int p3)] [] := by
  intro n
  induction n with
  | zero =>
    intro p0 p1 p3 h hf
    unfold f_X4_contributions_l4 at hf
    cases hf
  | succ n ih =>
    intro p0 p1 p3 h hf
    unfold f_X4_contributions_l4 at hf
    refine zr_iload_n C0 dX4_contributions_4 rfl 2 rfl ?_
    refine zr_aload_n C0 dX4_contributions_5 rfl 0 rfl ?_
    obtain ⟨x1, e2, hf⟩ := zbind hf
    refine zr_get C0 fl_X4_20_X4 dX4_contributions_6 (zgR e2) ?_
    obtain ⟨_, e3, hf⟩ := zbind hf
    obtain ⟨x6, h4, e5, hf⟩ := zbind2 hf
    refine zr_callF_r C0 cv_X4_46_J2 rfl (zcko e3) (m_J2_size C0.2.2.2.2.2.2.1 e5) (by decide) (by decide) rfl rfl (Nat.le_of_ble_eq_true rfl) dX4_contributions_9 rfl ?_
    refine zr_icmp_ge C0 (tgt := 42) dX4_contributions_14 (by decide) (fun c7 => ?_) (fun c7 => ?_)
    · have hf := zif_t c7 hf
      refine zr_lload_n C0 dX4_contributions_42 rfl 1 rfl ?_
      refine zretW hf ?_
      exact zr_lret C0 rfl dX4_contributions_43 rfl
    · have hf := zif_f c7 hf
      refine zr_lload_n C0 dX4_contributions_17 rfl 1 rfl ?_
      refine zr_aload_n C0 dX4_contributions_18 rfl 0 rfl ?_
      obtain ⟨x8, e9, hf⟩ := zbind hf
      refine zr_get C0 fl_X4_20_X4 dX4_contributions_19 (zgR e9) ?_
      refine zr_iload_n C0 dX4_contributions_22 rfl 2 rfl ?_
      obtain ⟨_, e10, hf⟩ := zbind hf
      obtain ⟨x13, h11, e12, hf⟩ := zbind2 hf
      refine zr_callF_r C0 cv_X4_52_J2 rfl (zcko e10) (m_J2_get C0.2.2.2.2.2.2.1 e12) (by decide) (by decide) rfl rfl (Nat.le_of_ble_eq_true rfl) dX4_contributions_23 rfl ?_
      obtain ⟨_, e14, hf⟩ := zbind hf
      refine zr_castS C0 (ci := 10) rfl (zcko e14) q843 dX4_contributions_28 ?_
      obtain ⟨x15, e16, hf⟩ := zbind hf
      refine zr_get C0 fl_X4_158_X11 dX4_contributions_31 (zgL e16) ?_
      refine zr_ladd C0 dX4_contributions_34 ?_
      refine zr_lstore_n (i := 1) (lv' := [(1, .long (p1 + x15)), (0, .ref p0), (3, .int p3)]) C0 dX4_contributions_35 rfl (by decide) (by first | rfl | simp [zst1, zst2, zcat_rf]) ?_
      refine zr_iinc (lv' := [(3, .int (p3 + 1)), (1, .long (p1 + x15)), (0, .ref p0)]) C0 dX4_contributions_36 2 rfl rfl (by decide) (by first | rfl | simp [zst1, zst2, zcat_rf]) ?_
      refine zr_goto C0 (tgt := 4) dX4_contributions_39 (by decide) ?_
      refine zr_sub [2, 1, 0] rfl ?_
      exact ih _ _ _ _ hf
def f_X4_contributions_b0 (E : zE) (p0 : Nat) (h : zH) : Option (Int64 × zH) :=
  f_X4_contributions_l4 E E.1 p0 (0 : Int64) (0 : Int32) h
theorem w_X4_contributions_b0 (C0 : zCx p l e R s m args below meth c D B0 4 "FranchiseLedger$Books" cX4_contributions E 4 124 (Option.some Jvm.ClassFile.FieldType.long) "contributions") {r : Int64} {h' : zH} {p0 : Nat} {h : zH} (hf : f_X4_contributions_b0 E p0 h = some (r, h')) : zW p l e R s m args below meth c D B0 4 (zEnd D B0 R below args s (zoL r) h') h 0 [(0, .ref p0)] [] := by
  unfold f_X4_contributions_b0 at hf
  refine zr_lconst C0 (v := 0) dX4_contributions_0 (by decide) ?_
  refine zr_lstore_n (i := 1) (lv' := [(1, .long (0 : Int64)), (0, .ref p0)]) C0 dX4_contributions_1 rfl (by decide) (by first | rfl | simp [zst1, zst2, zcat_rf]) ?_
  refine zr_iconst C0 (v := 0) dX4_contributions_2 (by decide) ?_
  refine zr_istore_n (i := 3) (lv' := [(3, .int (0 : Int32)), (1, .long (0 : Int64)), (0, .ref p0)]) C0 dX4_contributions_3 rfl (by decide) (by first | rfl | simp [zst1, zst2, zcat_rf]) ?_
  refine zr_sub [2, 1, 0] rfl ?_
  exact w_X4_contributions_l4 C0 _ _ _ _ _ hf
def f_X4_contributions (E : zE) (p0 : Nat) (h : zH) : Option (Int64 × zH) := f_X4_contributions_b0 E p0 h
theorem m_X4_contributions {l : Launch} (hst : l.stackTraces = false) {D : zD} {B0 : Nat} {E : zE} {p0 : Nat} {h h' : zH} {r : Int64} (hf : f_X4_contributions E p0 h = some (r, h')) : zMet l yX4_contributions (ws_ yX4_contributions cX4_contributions 4 (Option.some Jvm.ClassFile.FieldType.long)) 4 124 D B0 E [.ref p0] h (zoL r) h' := by
  unfold f_X4_contributions at hf
  refine zMet_of hst (by decide +kernel) rfl rfl (Nat.le_of_ble_eq_true rfl) (fun p e R s m below meth c C0 hno => ?_)
  show zW _ _ _ _ _ _ _ _ _ _ _ _ _ _ _ _ [(0, .ref p0)] []
  exact w_X4_contributions_b0 C0 hf
def f_X4_fund_b0 (E : zE) (p0 : Nat) (h : zH) : Option (Int64 × zH) :=
  (cko h p0 4).bind fun _ =>
  bnd2 (f_X4_contributions E p0 h) fun x4 h2 =>
  (gR h2 p0 4 4).bind fun x5 =>
  (dL h2 x5 (0 : Int32)).bind fun x7 =>
  (gR h2 p0 4 4).bind fun x9 =>
  (dL h2 x9 (1 : Int32)).bind fun x11 =>
  (gR h2 p0 4 4).bind fun x13 =>
  (dL h2 x13 (2 : Int32)).bind fun x15 =>
  some ((((x4 - x7) - x11) - x15), h2)
theorem w_X4_fund_b0 (C0 : zCx p l e R s m args below meth c D B0 1 "FranchiseLedger$Books" cX4_fund E 5 147 (Option.some Jvm.ClassFile.FieldType.long) "fund") {r : Int64} {h' : zH} {p0 : Nat} {h : zH} (hf : f_X4_fund_b0 E p0 h = some (r, h')) : zW p l e R s m args below meth c D B0 1 (zEnd D B0 R below args s (zoL r) h') h 0 [(0, .ref p0)] [] := by
  unfold f_X4_fund_b0 at hf
  refine zr_aload_n C0 dX4_fund_0 rfl 0 rfl ?_
  obtain ⟨_, e1, hf⟩ := zbind hf
  obtain ⟨x4, h2, e3, hf⟩ := zbind2 hf
  refine zr_callV_r C0 cv_X4_206_X4 rfl (zcko e1) (m_X4_contributions C0.2.2.2.2.2.2.1 e3) (by decide) (by decide) rfl rfl (Nat.le_of_ble_eq_true rfl) dX4_fund_1 rfl ?_
  refine zr_aload_n C0 dX4_fund_4 rfl 0 rfl ?_
  obtain ⟨x5, e6, hf⟩ := zbind hf
  refine zr_get C0 fl_X4_39_X4 dX4_fund_5 (zgR e6) ?_
  refine zr_iconst C0 (v := 0) dX4_fund_8 (by decide) ?_
  obtain ⟨x7, e8, hf⟩ := zbind hf
  refine zr_lald C0 dX4_fund_9 e8 ?_
  refine zr_lsub C0 dX4_fund_10 ?_
  refine zr_aload_n C0 dX4_fund_11 rfl 0 rfl ?_
  obtain ⟨x9, e10, hf⟩ := zbind hf
  refine zr_get C0 fl_X4_39_X4 dX4_fund_12 (zgR e10) ?_
  refine zr_iconst C0 (v := 1) dX4_fund_15 (by decide) ?_
  obtain ⟨x11, e12, hf⟩ := zbind hf
  refine zr_lald C0 dX4_fund_16 e12 ?_
  refine zr_lsub C0 dX4_fund_17 ?_
  refine zr_aload_n C0 dX4_fund_18 rfl 0 rfl ?_
  obtain ⟨x13, e14, hf⟩ := zbind hf
  refine zr_get C0 fl_X4_39_X4 dX4_fund_19 (zgR e14) ?_
  refine zr_iconst C0 (v := 2) dX4_fund_22 (by decide) ?_
  obtain ⟨x15, e16, hf⟩ := zbind hf
  refine zr_lald C0 dX4_fund_23 e16 ?_
  refine zr_lsub C0 dX4_fund_24 ?_
  refine zretW hf ?_
  exact zr_lret C0 rfl dX4_fund_25 rfl
def f_X4_fund (E : zE) (p0 : Nat) (h : zH) : Option (Int64 × zH) := f_X4_fund_b0 E p0 h
theorem m_X4_fund {l : Launch} (hst : l.stackTraces = false) {D : zD} {B0 : Nat} {E : zE} {p0 : Nat} {h h' : zH} {r : Int64} (hf : f_X4_fund E p0 h = some (r, h')) : zMet l yX4_fund (ws_ yX4_fund cX4_fund 1 (Option.some Jvm.ClassFile.FieldType.long)) 5 147 D B0 E [.ref p0] h (zoL r) h' := by
  unfold f_X4_fund at hf
  refine zMet_of hst (by decide +kernel) rfl rfl (Nat.le_of_ble_eq_true rfl) (fun p e R s m below meth c C0 hno => ?_)
  show zW _ _ _ _ _ _ _ _ _ _ _ _ _ _ _ _ [(0, .ref p0)] []
  exact w_X4_fund_b0 C0 hf
def f_X1_fundBalance_b0 (E : zE) (p0 : Nat) (h : zH) : Option (Int64 × zH) :=
  (gR h p0 0 1).bind fun x1 =>
  (cko h x1 4).bind fun _ =>
  bnd2 (f_X4_fund E x1 h) fun x6 h4 =>
  some (x6, h4)
theorem w_X1_fundBalance_b0 (C0 : zCx p l e R s m args below meth c D B0 1 "FranchiseLedger" cX1_fundBalance E 6 167 (Option.some Jvm.ClassFile.FieldType.long) "fundBalance") {r : Int64} {h' : zH} {p0 : Nat} {h : zH} (hf : f_X1_fundBalance_b0 E p0 h = some (r, h')) : zW p l e R s m args below meth c D B0 1 (zEnd D B0 R below args s (zoL r) h') h 0 [(0, .ref p0)] [] := by
  unfold f_X1_fundBalance_b0 at hf
  refine zr_aload_n C0 dX1_fundBalance_0 rfl 0 rfl ?_
  obtain ⟨x1, e2, hf⟩ := zbind hf
  refine zr_get C0 fl_X1_39_X1 dX1_fundBalance_1 (zgR e2) ?_
  obtain ⟨_, e3, hf⟩ := zbind hf
  obtain ⟨x6, h4, e5, hf⟩ := zbind2 hf
  refine zr_callV_r C0 cv_X1_327_X4 rfl (zcko e3) (m_X4_fund C0.2.2.2.2.2.2.1 e5) (by decide) (by decide) rfl rfl (Nat.le_of_ble_eq_true rfl) dX1_fundBalance_4 rfl ?_
  refine zretW hf ?_
  exact zr_lret C0 rfl dX1_fundBalance_7 rfl
def f_X1_fundBalance (E : zE) (p0 : Nat) (h : zH) : Option (Int64 × zH) := f_X1_fundBalance_b0 E p0 h
theorem m_X1_fundBalance {l : Launch} (hst : l.stackTraces = false) {D : zD} {B0 : Nat} {E : zE} {p0 : Nat} {h h' : zH} {r : Int64} (hf : f_X1_fundBalance E p0 h = some (r, h')) : zMet l yX1_fundBalance (ws_ yX1_fundBalance cX1_fundBalance 1 (Option.some Jvm.ClassFile.FieldType.long)) 6 167 D B0 E [.ref p0] h (zoL r) h' := by
  unfold f_X1_fundBalance at hf
  refine zMet_of hst (by decide +kernel) rfl rfl (Nat.le_of_ble_eq_true rfl) (fun p e R s m below meth c C0 hno => ?_)
  show zW _ _ _ _ _ _ _ _ _ _ _ _ _ _ _ _ [(0, .ref p0)] []
  exact w_X1_fundBalance_b0 C0 hf
def f_X1_inRange_b18 (E : zE) (s0 : Int32) (h : zH) : Option (Int32 × zH) :=
  (zgd .boolean s0).bind fun _ =>
  some (s0, h)
theorem w_X1_inRange_b18 (C0 : zCx p l e R s m args below meth c D B0 6 "FranchiseLedger" cX1_inRange E 1 60 (Option.some Jvm.ClassFile.FieldType.boolean) "inRange") {r : Int32} {h' : zH} {s0 : Int32} {h : zH} (hf : f_X1_inRange_b18 E s0 h = some (r, h')) : zW p l e R s m args below meth c D B0 6 (zEnd D B0 R below args s (zoI r) h') h 18 [] [.int s0] := by
  unfold f_X1_inRange_b18 at hf
  obtain ⟨_, e1, hf⟩ := zbind hf
  refine zretW hf ?_
  exact zr_iret C0 (ty := .boolean) rfl (zgd_n e1) dX1_inRange_18 rfl
def f_X1_inRange_b17 (E : zE) (h : zH) : Option (Int32 × zH) :=
  f_X1_inRange_b18 E (0 : Int32) h
theorem w_X1_inRange_b17 (C0 : zCx p l e R s m args below meth c D B0 6 "FranchiseLedger" cX1_inRange E 1 60 (Option.some Jvm.ClassFile.FieldType.boolean) "inRange") {r : Int32} {h' : zH} {h : zH} (hf : f_X1_inRange_b17 E  h = some (r, h')) : zW p l e R s m args below meth c D B0 6 (zEnd D B0 R below args s (zoI r) h') h 17 [] [] := by
  unfold f_X1_inRange_b17 at hf
  refine zr_iconst C0 (v := 0) dX1_inRange_17 (by decide) ?_
  exact w_X1_inRange_b18 C0 hf
def f_X1_inRange_b0 (E : zE) (p0 : Int64) (p2 : Int64) (p4 : Int64) (h : zH) : Option (Int32 × zH) :=
  if p0 < p2 then (
    f_X1_inRange_b17 E  h
  ) else (
    if p4 < p0 then (
      f_X1_inRange_b17 E  h
    ) else (
      f_X1_inRange_b18 E (1 : Int32) h
    )
  )
theorem w_X1_inRange_b0 (C0 : zCx p l e R s m args below meth c D B0 6 "FranchiseLedger" cX1_inRange E 1 60 (Option.some Jvm.ClassFile.FieldType.boolean) "inRange") {r : Int32} {h' : zH} {p0 : Int64} {p2 : Int64} {p4 : Int64} {h : zH} (hf : f_X1_inRange_b0 E p0 p2 p4 h = some (r, h')) : zW p l e R s m args below meth c D B0 6 (zEnd D B0 R below args s (zoI r) h') h 0 [(0, .long p0), (2, .long p2), (4, .long p4)] [] := by
  unfold f_X1_inRange_b0 at hf
  refine zr_lload_n C0 dX1_inRange_0 rfl 0 rfl ?_
  refine zr_lload_n C0 dX1_inRange_1 rfl 1 rfl ?_
  refine zr_lcmp C0 dX1_inRange_2 ?_
  refine zr_if_lt C0 (tgt := 17) dX1_inRange_3 (by decide) (fun c1 => ?_) (fun c1 => ?_)
  · have hf := zif_t (zl_lt.mp c1) hf
    refine zr_sub [] rfl ?_
    exact w_X1_inRange_b17 C0 hf
  · have hf := zif_f (zl_ltn.mp c1) hf
    refine zr_lload_n C0 dX1_inRange_6 rfl 0 rfl ?_
    refine zr_lload C0 dX1_inRange_7 2 rfl ?_
    refine zr_lcmp C0 dX1_inRange_9 ?_
    refine zr_if_gt C0 (tgt := 17) dX1_inRange_10 (by decide) (fun c2 => ?_) (fun c2 => ?_)
    · have hf := zif_t (zl_gt.mp c2) hf
      refine zr_sub [] rfl ?_
      exact w_X1_inRange_b17 C0 hf
    · have hf := zif_f (zl_gtn.mp c2) hf
      refine zr_iconst C0 (v := 1) dX1_inRange_13 (by decide) ?_
      refine zr_goto C0 (tgt := 18) dX1_inRange_14 (by decide) ?_
      refine zr_sub [] rfl ?_
      exact w_X1_inRange_b18 C0 hf
def f_X1_inRange (E : zE) (p0 : Int64) (p2 : Int64) (p4 : Int64) (h : zH) : Option (Int32 × zH) := f_X1_inRange_b0 E p0 p2 p4 h
theorem m_X1_inRange {l : Launch} (hst : l.stackTraces = false) {D : zD} {B0 : Nat} {E : zE} {p0 : Int64} {p2 : Int64} {p4 : Int64} {h h' : zH} {r : Int32} (hf : f_X1_inRange E p0 p2 p4 h = some (r, h')) : zMet l yX1_inRange (ws_ yX1_inRange cX1_inRange 6 (Option.some Jvm.ClassFile.FieldType.boolean)) 1 60 D B0 E [.long p0, .long p2, .long p4] h (zoI r) h' := by
  unfold f_X1_inRange at hf
  refine zMet_of hst (by decide +kernel) rfl rfl (Nat.le_of_ble_eq_true rfl) (fun p e R s m below meth c C0 hno => ?_)
  show zW _ _ _ _ _ _ _ _ _ _ _ _ _ _ _ _ [(0, .long p0), (2, .long p2), (4, .long p4)] []
  exact w_X1_inRange_b0 C0 hf
def f_X12_init_b0 (E : zE) (p0 : Nat) (h : zH) : Option (Unit × zH) :=
  (pF h p0 11 0 (.int (0 : Int32))).bind fun h1 =>
  some ((), h1)
theorem w_X12_init_b0 (C0 : zCx p l e R s m args below meth c D B0 1 "FranchiseLedger$Transfer" cX12_init E 1 60 (Option.none : Option Jvm.ClassFile.FieldType) "<init>") {r : Unit} {h' : zH} {p0 : Nat} {h : zH} (hf : f_X12_init_b0 E p0 h = some (r, h')) : zW p l e R s m args below meth c D B0 1 (zEnd D B0 R below args s (zoV r) h') h 0 [(0, .ref p0)] [] := by
  unfold f_X12_init_b0 at hf
  refine zr_aload_n C0 dX12_init_0 rfl 0 rfl ?_
  refine zr_objInit C0 q872 q182 q183 dX12_init_1 (by decide) (by show _ ≤ _; exact Nat.le_of_ble_eq_true rfl) ?_
  refine zr_aload_n C0 dX12_init_4 rfl 0 rfl ?_
  refine zr_iconst C0 (v := 0) dX12_init_5 (by decide) ?_
  obtain ⟨h1, e2, hf⟩ := zbind hf
  refine zr_put C0 pl_X12_9_X12 dX12_init_6 (fun h => by cases h) rfl rfl e2 ?_
  refine zretW hf ?_
  exact zr_vret C0 rfl dX12_init_9 rfl
def f_X12_init (E : zE) (p0 : Nat) (h : zH) : Option (Unit × zH) := f_X12_init_b0 E p0 h
theorem m_X12_init {l : Launch} (hst : l.stackTraces = false) {D : zD} {B0 : Nat} {E : zE} {p0 : Nat} {h h' : zH} {r : Unit} (hf : f_X12_init E p0 h = some (r, h')) : zMet l yX12_init (ws_ yX12_init cX12_init 1 (Option.none : Option Jvm.ClassFile.FieldType)) 1 60 D B0 E [.ref p0] h (zoV r) h' := by
  unfold f_X12_init at hf
  refine zMet_of hst (by decide +kernel) rfl rfl (Nat.le_of_ble_eq_true rfl) (fun p e R s m below meth c C0 hno => ?_)
  show zW _ _ _ _ _ _ _ _ _ _ _ _ _ _ _ _ [(0, .ref p0)] []
  exact w_X12_init_b0 C0 hf
def f_X11_init_b0 (E : zE) (p0 : Nat) (p1 : Int32) (p2 : Int32) (h : zH) : Option (Unit × zH) :=
  bnd2 (nO h 11 7 [.int 0, .int 0, .int 0, .int 0, .int 0, .int 0, .long 0]) fun q1 h2 =>
  bnd2 (f_X12_init E q1 h2) fun x6 h4 =>
  (pF h4 p0 10 0 (.ref q1)).bind fun h7 =>
  bnd2 (nA h7 5 (60 : Int32) (.inr (.inr fun _ => none))) fun q9 h10 =>
  (pF h10 p0 10 1 (.ref q9)).bind fun h12 =>
  bnd2 (nA h12 1 (60 : Int32) (.inr (.inl fun _ => 0))) fun q14 h15 =>
  (pF h15 p0 10 2 (.ref q14)).bind fun h17 =>
  (pF h17 p0 10 5 (.int (0 : Int32))).bind fun h19 =>
  (pF h19 p0 10 3 (.int p1)).bind fun h21 =>
  (pF h21 p0 10 4 (.int p2)).bind fun h23 =>
  some ((), h23)
theorem w_X11_init_b0 (C0 : zCx p l e R s m args below meth c D B0 3 "FranchiseLedger$Franchisee" cX11_init E 2 80 (Option.none : Option Jvm.ClassFile.FieldType) "<init>") {r : Unit} {h' : zH} {p0 : Nat} {p1 : Int32} {p2 : Int32} {h : zH} (hf : f_X11_init_b0 E p0 p1 p2 h = some (r, h')) : zW p l e R s m args below meth c D B0 3 (zEnd D B0 R below args s (zoV r) h') h 0 [(0, .ref p0), (1, .int p1), (2, .int p2)] [] := by
  unfold f_X11_init_b0 at hf
  refine zr_aload_n C0 dX11_init_0 rfl 0 rfl ?_
  refine zr_objInit C0 q866 q182 q183 dX11_init_1 (by decide) (by show _ ≤ _; exact Nat.le_of_ble_eq_true rfl) ?_
  refine zr_aload_n C0 dX11_init_4 rfl 0 rfl ?_
  obtain ⟨q1, h2, e3, hf⟩ := zbind2 hf
  refine zr_newc C0 (C := RX12) (T := TX12) (N := 7) rfl in_X12 tyX12_ok q867 q868 q168 nw_X12 dX11_init_5 e3 ?_
  refine zr_dup C0 dX11_init_8 rfl ?_
  obtain ⟨x6, h4, e5, hf⟩ := zbind2 hf
  refine zr_callIN_r C0 cv_X11_11 (m_X12_init C0.2.2.2.2.2.2.1 e5) (by decide) (by decide) rfl rfl (Nat.le_of_ble_eq_true rfl) dX11_init_9 rfl ?_
  obtain ⟨h7, e8, hf⟩ := zbind hf
  refine zr_put C0 pl_X11_12_X11 dX11_init_12 (fun _ => rfl) rfl rfl e8 ?_
  refine zr_aload_n C0 dX11_init_15 rfl 0 rfl ?_
  refine zr_bipush C0 (v := 60) dX11_init_16 (by decide) ?_
  obtain ⟨q9, h10, e11, hf⟩ := zbind2 hf
  refine zr_anew5 C0 q902 dX11_init_18 e11 ?_
  obtain ⟨h12, e13, hf⟩ := zbind hf
  refine zr_put C0 pl_X11_20_X11 dX11_init_21 (fun _ => rfl) rfl rfl e13 ?_
  refine zr_aload_n C0 dX11_init_24 rfl 0 rfl ?_
  refine zr_bipush C0 (v := 60) dX11_init_25 (by decide) ?_
  obtain ⟨q14, h15, e16, hf⟩ := zbind2 hf
  refine zr_newa C0 (atype := .long) (t := 1) q661 rfl (by decide) (fun _ => rfl) dX11_init_27 e16 ?_
  obtain ⟨h17, e18, hf⟩ := zbind hf
  refine zr_put C0 pl_X11_24_X11 dX11_init_29 (fun _ => rfl) rfl rfl e18 ?_
  refine zr_aload_n C0 dX11_init_32 rfl 0 rfl ?_
  refine zr_iconst C0 (v := 0) dX11_init_33 (by decide) ?_
  obtain ⟨h19, e20, hf⟩ := zbind hf
  refine zr_put C0 pl_X11_27_X11 dX11_init_34 (fun h => by cases h) rfl rfl e20 ?_
  refine zr_aload_n C0 dX11_init_37 rfl 0 rfl ?_
  refine zr_iload_n C0 dX11_init_38 rfl 1 rfl ?_
  obtain ⟨h21, e22, hf⟩ := zbind hf
  refine zr_put C0 pl_X11_31_X11 dX11_init_39 (fun h => by cases h) rfl rfl e22 ?_
  refine zr_aload_n C0 dX11_init_42 rfl 0 rfl ?_
  refine zr_iload_n C0 dX11_init_43 rfl 2 rfl ?_
  obtain ⟨h23, e24, hf⟩ := zbind hf
  refine zr_put C0 pl_X11_34_X11 dX11_init_44 (fun h => by cases h) rfl rfl e24 ?_
  refine zretW hf ?_
  exact zr_vret C0 rfl dX11_init_47 rfl
def f_X11_init (E : zE) (p0 : Nat) (p1 : Int32) (p2 : Int32) (h : zH) : Option (Unit × zH) := f_X11_init_b0 E p0 p1 p2 h
theorem m_X11_init {l : Launch} (hst : l.stackTraces = false) {D : zD} {B0 : Nat} {E : zE} {p0 : Nat} {p1 : Int32} {p2 : Int32} {h h' : zH} {r : Unit} (hf : f_X11_init E p0 p1 p2 h = some (r, h')) : zMet l yX11_init (ws_ yX11_init cX11_init 3 (Option.none : Option Jvm.ClassFile.FieldType)) 2 80 D B0 E [.ref p0, .int p1, .int p2] h (zoV r) h' := by
  unfold f_X11_init at hf
  refine zMet_of hst (by decide +kernel) rfl rfl (Nat.le_of_ble_eq_true rfl) (fun p e R s m below meth c C0 hno => ?_)
  show zW _ _ _ _ _ _ _ _ _ _ _ _ _ _ _ _ [(0, .ref p0), (1, .int p1), (2, .int p2)] []
  exact w_X11_init_b0 C0 hf
def f_X12_like_b0 (E : zE) (p0 : Nat) (p1 : Nat) (h : zH) : Option (Unit × zH) :=
  (gI h p1 11 0).bind fun x1 =>
  (pF h p0 11 0 (.int x1)).bind fun h3 =>
  (gI h3 p1 11 1).bind fun x5 =>
  (pF h3 p0 11 1 (.int x5)).bind fun h7 =>
  (gI h7 p1 11 2).bind fun x9 =>
  (pF h7 p0 11 2 (.int x9)).bind fun h11 =>
  (gI h11 p1 11 3).bind fun x13 =>
  (pF h11 p0 11 3 (.int x13)).bind fun h15 =>
  (gI h15 p1 11 4).bind fun x17 =>
  (pF h15 p0 11 4 (.int x17)).bind fun h19 =>
  (gI h19 p1 11 5).bind fun x21 =>
  (pF h19 p0 11 5 (.int x21)).bind fun h23 =>
  (gL h23 p1 11 6).bind fun x25 =>
  (pF h23 p0 11 6 (.long x25)).bind fun h27 =>
  some ((), h27)
theorem w_X12_like_b0 (C0 : zCx p l e R s m args below meth c D B0 2 "FranchiseLedger$Transfer" cX12_like E 1 60 (Option.none : Option Jvm.ClassFile.FieldType) "like") {r : Unit} {h' : zH} {p0 : Nat} {p1 : Nat} {h : zH} (hf : f_X12_like_b0 E p0 p1 h = some (r, h')) : zW p l e R s m args below meth c D B0 2 (zEnd D B0 R below args s (zoV r) h') h 0 [(0, .ref p0), (1, .ref p1)] [] := by
  unfold f_X12_like_b0 at hf
  refine zr_aload_n C0 dX12_like_0 rfl 0 rfl ?_
  refine zr_aload_n C0 dX12_like_1 rfl 1 rfl ?_
  obtain ⟨x1, e2, hf⟩ := zbind hf
  refine zr_get C0 fl_X12_9_X12 dX12_like_2 (zgI e2) ?_
  obtain ⟨h3, e4, hf⟩ := zbind hf
  refine zr_put C0 pl_X12_9_X12 dX12_like_5 (fun h => by cases h) rfl rfl e4 ?_
  refine zr_aload_n C0 dX12_like_8 rfl 0 rfl ?_
  refine zr_aload_n C0 dX12_like_9 rfl 1 rfl ?_
  obtain ⟨x5, e6, hf⟩ := zbind hf
  refine zr_get C0 fl_X12_15_X12 dX12_like_10 (zgI e6) ?_
  obtain ⟨h7, e8, hf⟩ := zbind hf
  refine zr_put C0 pl_X12_15_X12 dX12_like_13 (fun h => by cases h) rfl rfl e8 ?_
  refine zr_aload_n C0 dX12_like_16 rfl 0 rfl ?_
  refine zr_aload_n C0 dX12_like_17 rfl 1 rfl ?_
  obtain ⟨x9, e10, hf⟩ := zbind hf
  refine zr_get C0 fl_X12_18_X12 dX12_like_18 (zgI e10) ?_
  obtain ⟨h11, e12, hf⟩ := zbind hf
  refine zr_put C0 pl_X12_18_X12 dX12_like_21 (fun h => by cases h) rfl rfl e12 ?_
  refine zr_aload_n C0 dX12_like_24 rfl 0 rfl ?_
  refine zr_aload_n C0 dX12_like_25 rfl 1 rfl ?_
  obtain ⟨x13, e14, hf⟩ := zbind hf
  refine zr_get C0 fl_X12_21_X12 dX12_like_26 (zgI e14) ?_
  obtain ⟨h15, e16, hf⟩ := zbind hf
  refine zr_put C0 pl_X12_21_X12 dX12_like_29 (fun h => by cases h) rfl rfl e16 ?_
  refine zr_aload_n C0 dX12_like_32 rfl 0 rfl ?_
  refine zr_aload_n C0 dX12_like_33 rfl 1 rfl ?_
  obtain ⟨x17, e18, hf⟩ := zbind hf
  refine zr_get C0 fl_X12_24_X12 dX12_like_34 (zgI e18) ?_
  obtain ⟨h19, e20, hf⟩ := zbind hf
  refine zr_put C0 pl_X12_24_X12 dX12_like_37 (fun h => by cases h) rfl rfl e20 ?_
  refine zr_aload_n C0 dX12_like_40 rfl 0 rfl ?_
  refine zr_aload_n C0 dX12_like_41 rfl 1 rfl ?_
  obtain ⟨x21, e22, hf⟩ := zbind hf
  refine zr_get C0 fl_X12_27_X12 dX12_like_42 (zgI e22) ?_
  obtain ⟨h23, e24, hf⟩ := zbind hf
  refine zr_put C0 pl_X12_27_X12 dX12_like_45 (fun h => by cases h) rfl rfl e24 ?_
  refine zr_aload_n C0 dX12_like_48 rfl 0 rfl ?_
  refine zr_aload_n C0 dX12_like_49 rfl 1 rfl ?_
  obtain ⟨x25, e26, hf⟩ := zbind hf
  refine zr_get C0 fl_X12_30_X12 dX12_like_50 (zgL e26) ?_
  obtain ⟨h27, e28, hf⟩ := zbind hf
  refine zr_put C0 pl_X12_30_X12 dX12_like_53 (fun h => by cases h) rfl rfl e28 ?_
  refine zretW hf ?_
  exact zr_vret C0 rfl dX12_like_56 rfl
def f_X12_like (E : zE) (p0 : Nat) (p1 : Nat) (h : zH) : Option (Unit × zH) := f_X12_like_b0 E p0 p1 h
theorem m_X12_like {l : Launch} (hst : l.stackTraces = false) {D : zD} {B0 : Nat} {E : zE} {p0 : Nat} {p1 : Nat} {h h' : zH} {r : Unit} (hf : f_X12_like E p0 p1 h = some (r, h')) : zMet l yX12_like (ws_ yX12_like cX12_like 2 (Option.none : Option Jvm.ClassFile.FieldType)) 1 60 D B0 E [.ref p0, .ref p1] h (zoV r) h' := by
  unfold f_X12_like at hf
  refine zMet_of hst (by decide +kernel) rfl rfl (Nat.le_of_ble_eq_true rfl) (fun p e R s m below meth c C0 hno => ?_)
  show zW _ _ _ _ _ _ _ _ _ _ _ _ _ _ _ _ [(0, .ref p0), (1, .ref p1)] []
  exact w_X12_like_b0 C0 hf
def f_X11_copy_b0 (E : zE) (p0 : Nat) (p1 : Int32) (h : zH) : Option (Nat × zH) :=
  bnd2 (nO h 10 11 [.null, .null, .null, .int 0, .int 0, .int 0, .int 0, .int 0, .long 0, .long 0, .long 0]) fun q1 h2 =>
  (gI h2 p0 10 3).bind fun x4 =>
  (gI h2 p0 10 4).bind fun x6 =>
  bnd2 (f_X11_init E q1 x4 x6 h2) fun x10 h8 =>
  (gR h8 q1 10 0).bind fun x11 =>
  (gR h8 p0 10 0).bind fun x13 =>
  (cko h8 x11 11).bind fun _ =>
  bnd2 (f_X12_like E x11 x13 h8) fun x18 h16 =>
  (gR h16 p0 10 1).bind fun x19 =>
  (gR h16 q1 10 1).bind fun x21 =>
  (cpA h16 x19 (0 : Int32) x21 (0 : Int32) p1).bind fun h23 =>
  (gR h23 p0 10 2).bind fun x25 =>
  (gR h23 q1 10 2).bind fun x27 =>
  (cpA h23 x25 (0 : Int32) x27 (0 : Int32) p1).bind fun h29 =>
  (gI h29 p0 10 5).bind fun x31 =>
  (pF h29 q1 10 5 (.int x31)).bind fun h33 =>
  (gI h33 p0 10 6).bind fun x35 =>
  (pF h33 q1 10 6 (.int x35)).bind fun h37 =>
  (gI h37 p0 10 7).bind fun x39 =>
  (pF h37 q1 10 7 (.int x39)).bind fun h41 =>
  (gL h41 p0 10 8).bind fun x43 =>
  (pF h41 q1 10 8 (.long x43)).bind fun h45 =>
  (gL h45 p0 10 9).bind fun x47 =>
  (pF h45 q1 10 9 (.long x47)).bind fun h49 =>
  (gL h49 p0 10 10).bind fun x51 =>
  (pF h49 q1 10 10 (.long x51)).bind fun h53 =>
  some (q1, h53)
theorem w_X11_copy_b0 (C0 : zCx p l e R s m args below meth c D B0 3 "FranchiseLedger$Franchisee" cX11_copy E 3 102 (Option.some (Jvm.ClassFile.FieldType.object "FranchiseLedger$Franchisee")) "copy") {r : Nat} {h' : zH} {p0 : Nat} {p1 : Int32} {h : zH} (hf : f_X11_copy_b0 E p0 p1 h = some (r, h')) : zW p l e R s m args below meth c D B0 3 (zEnd D B0 R below args s (zoR r) h') h 0 [(0, .ref p0), (1, .int p1)] [] := by
  unfold f_X11_copy_b0 at hf
  obtain ⟨q1, h2, e3, hf⟩ := zbind2 hf
  refine zr_newc C0 (C := RX11) (T := TX11) (N := 11) rfl in_X11 tyX11_ok q861 q862 q167 nw_X11 dX11_copy_0 e3 ?_
  refine zr_dup C0 dX11_copy_3 rfl ?_
  refine zr_aload_n C0 dX11_copy_4 rfl 0 rfl ?_
  obtain ⟨x4, e5, hf⟩ := zbind hf
  refine zr_get C0 fl_X11_31_X11 dX11_copy_5 (zgI e5) ?_
  refine zr_aload_n C0 dX11_copy_8 rfl 0 rfl ?_
  obtain ⟨x6, e7, hf⟩ := zbind hf
  refine zr_get C0 fl_X11_34_X11 dX11_copy_9 (zgI e7) ?_
  obtain ⟨x10, h8, e9, hf⟩ := zbind2 hf
  refine zr_callI_r C0 cv_X11_37 (m_X11_init C0.2.2.2.2.2.2.1 e9) (by decide) (by decide) rfl rfl (Nat.le_of_ble_eq_true rfl) dX11_copy_12 rfl ?_
  refine zr_astore_n (i := 2) (lv' := [(2, .ref q1), (0, .ref p0), (1, .int p1)]) C0 dX11_copy_15 rfl (by decide) (by first | rfl | simp [zst1, zst2, zcat_rf]) ?_
  refine zr_aload_n C0 dX11_copy_16 rfl 0 rfl ?_
  obtain ⟨x11, e12, hf⟩ := zbind hf
  refine zr_get C0 fl_X11_12_X11 dX11_copy_17 (zgR e12) ?_
  refine zr_aload_n C0 dX11_copy_20 rfl 1 rfl ?_
  obtain ⟨x13, e14, hf⟩ := zbind hf
  refine zr_get C0 fl_X11_12_X11 dX11_copy_21 (zgR e14) ?_
  obtain ⟨_, e15, hf⟩ := zbind hf
  obtain ⟨x18, h16, e17, hf⟩ := zbind2 hf
  refine zr_callV_r C0 cv_X11_40_X12 rfl (zcko e15) (m_X12_like C0.2.2.2.2.2.2.1 e17) (by decide) (by decide) rfl rfl (Nat.le_of_ble_eq_true rfl) dX11_copy_24 rfl ?_
  refine zr_aload_n C0 dX11_copy_27 rfl 1 rfl ?_
  obtain ⟨x19, e20, hf⟩ := zbind hf
  refine zr_get C0 fl_X11_20_X11 dX11_copy_28 (zgR e20) ?_
  refine zr_iconst C0 (v := 0) dX11_copy_31 (by decide) ?_
  refine zr_aload_n C0 dX11_copy_32 rfl 0 rfl ?_
  obtain ⟨x21, e22, hf⟩ := zbind hf
  refine zr_get C0 fl_X11_20_X11 dX11_copy_33 (zgR e22) ?_
  refine zr_iconst C0 (v := 0) dX11_copy_36 (by decide) ?_
  refine zr_iload_n C0 dX11_copy_37 rfl 2 rfl ?_
  obtain ⟨h23, e24, hf⟩ := zbind hf
  refine zr_copy C0 q962 (by decide) (Nat.le_of_ble_eq_true rfl) dX11_copy_38 e24 ?_
  refine zr_aload_n C0 dX11_copy_41 rfl 1 rfl ?_
  obtain ⟨x25, e26, hf⟩ := zbind hf
  refine zr_get C0 fl_X11_24_X11 dX11_copy_42 (zgR e26) ?_
  refine zr_iconst C0 (v := 0) dX11_copy_45 (by decide) ?_
  refine zr_aload_n C0 dX11_copy_46 rfl 0 rfl ?_
  obtain ⟨x27, e28, hf⟩ := zbind hf
  refine zr_get C0 fl_X11_24_X11 dX11_copy_47 (zgR e28) ?_
  refine zr_iconst C0 (v := 0) dX11_copy_50 (by decide) ?_
  refine zr_iload_n C0 dX11_copy_51 rfl 2 rfl ?_
  obtain ⟨h29, e30, hf⟩ := zbind hf
  refine zr_copy C0 q962 (by decide) (Nat.le_of_ble_eq_true rfl) dX11_copy_52 e30 ?_
  refine zr_aload_n C0 dX11_copy_55 rfl 0 rfl ?_
  refine zr_aload_n C0 dX11_copy_56 rfl 1 rfl ?_
  obtain ⟨x31, e32, hf⟩ := zbind hf
  refine zr_get C0 fl_X11_27_X11 dX11_copy_57 (zgI e32) ?_
  obtain ⟨h33, e34, hf⟩ := zbind hf
  refine zr_put C0 pl_X11_27_X11 dX11_copy_60 (fun h => by cases h) rfl rfl e34 ?_
  refine zr_aload_n C0 dX11_copy_63 rfl 0 rfl ?_
  refine zr_aload_n C0 dX11_copy_64 rfl 1 rfl ?_
  obtain ⟨x35, e36, hf⟩ := zbind hf
  refine zr_get C0 fl_X11_50_X11 dX11_copy_65 (zgI e36) ?_
  obtain ⟨h37, e38, hf⟩ := zbind hf
  refine zr_put C0 pl_X11_50_X11 dX11_copy_68 (fun h => by cases h) rfl rfl e38 ?_
  refine zr_aload_n C0 dX11_copy_71 rfl 0 rfl ?_
  refine zr_aload_n C0 dX11_copy_72 rfl 1 rfl ?_
  obtain ⟨x39, e40, hf⟩ := zbind hf
  refine zr_get C0 fl_X11_53_X11 dX11_copy_73 (zgI e40) ?_
  obtain ⟨h41, e42, hf⟩ := zbind hf
  refine zr_put C0 pl_X11_53_X11 dX11_copy_76 (fun h => by cases h) rfl rfl e42 ?_
  refine zr_aload_n C0 dX11_copy_79 rfl 0 rfl ?_
  refine zr_aload_n C0 dX11_copy_80 rfl 1 rfl ?_
  obtain ⟨x43, e44, hf⟩ := zbind hf
  refine zr_get C0 fl_X11_56_X11 dX11_copy_81 (zgL e44) ?_
  obtain ⟨h45, e46, hf⟩ := zbind hf
  refine zr_put C0 pl_X11_56_X11 dX11_copy_84 (fun h => by cases h) rfl rfl e46 ?_
  refine zr_aload_n C0 dX11_copy_87 rfl 0 rfl ?_
  refine zr_aload_n C0 dX11_copy_88 rfl 1 rfl ?_
  obtain ⟨x47, e48, hf⟩ := zbind hf
  refine zr_get C0 fl_X11_60_X11 dX11_copy_89 (zgL e48) ?_
  obtain ⟨h49, e50, hf⟩ := zbind hf
  refine zr_put C0 pl_X11_60_X11 dX11_copy_92 (fun h => by cases h) rfl rfl e50 ?_
  refine zr_aload_n C0 dX11_copy_95 rfl 0 rfl ?_
  refine zr_aload_n C0 dX11_copy_96 rfl 1 rfl ?_
  obtain ⟨x51, e52, hf⟩ := zbind hf
  refine zr_get C0 fl_X11_63_X11 dX11_copy_97 (zgL e52) ?_
  obtain ⟨h53, e54, hf⟩ := zbind hf
  refine zr_put C0 pl_X11_63_X11 dX11_copy_100 (fun h => by cases h) rfl rfl e54 ?_
  refine zr_aload_n C0 dX11_copy_103 rfl 0 rfl ?_
  refine zretW hf ?_
  exact zr_aret C0 rfl (Or.inl ⟨_, rfl⟩) dX11_copy_104 rfl
def f_X11_copy (E : zE) (p0 : Nat) (p1 : Int32) (h : zH) : Option (Nat × zH) := f_X11_copy_b0 E p0 p1 h
theorem m_X11_copy {l : Launch} (hst : l.stackTraces = false) {D : zD} {B0 : Nat} {E : zE} {p0 : Nat} {p1 : Int32} {h h' : zH} {r : Nat} (hf : f_X11_copy E p0 p1 h = some (r, h')) : zMet l yX11_copy (ws_ yX11_copy cX11_copy 3 (Option.some (Jvm.ClassFile.FieldType.object "FranchiseLedger$Franchisee"))) 3 102 D B0 E [.ref p0, .int p1] h (zoR r) h' := by
  unfold f_X11_copy at hf
  refine zMet_of hst (by decide +kernel) rfl rfl (Nat.le_of_ble_eq_true rfl) (fun p e R s m below meth c C0 hno => ?_)
  show zW _ _ _ _ _ _ _ _ _ _ _ _ _ _ _ _ [(0, .ref p0), (1, .int p1)] []
  exact w_X11_copy_b0 C0 hf
def f_J12_max_b10 (E : zE) (s0 : Int32) (h : zH) : Option (Int32 × zH) :=
  some (s0, h)
theorem w_J12_max_b10 (C0 : zCx p l e R s m args below meth c D B0 2 "java/lang/Math" cJ12_max E 1 60 (Option.some Jvm.ClassFile.FieldType.int) "max") {r : Int32} {h' : zH} {s0 : Int32} {h : zH} (hf : f_J12_max_b10 E s0 h = some (r, h')) : zW p l e R s m args below meth c D B0 2 (zEnd D B0 R below args s (zoI r) h') h 10 [] [.int s0] := by
  unfold f_J12_max_b10 at hf
  refine zretW hf ?_
  exact zr_iret C0 (ty := .int) rfl rfl dJ12_max_10 rfl
def f_J12_max_b0 (E : zE) (p0 : Int32) (p1 : Int32) (h : zH) : Option (Int32 × zH) :=
  if p0 < p1 then (
    f_J12_max_b10 E p1 h
  ) else (
    f_J12_max_b10 E p0 h
  )
theorem w_J12_max_b0 (C0 : zCx p l e R s m args below meth c D B0 2 "java/lang/Math" cJ12_max E 1 60 (Option.some Jvm.ClassFile.FieldType.int) "max") {r : Int32} {h' : zH} {p0 : Int32} {p1 : Int32} {h : zH} (hf : f_J12_max_b0 E p0 p1 h = some (r, h')) : zW p l e R s m args below meth c D B0 2 (zEnd D B0 R below args s (zoI r) h') h 0 [(0, .int p0), (1, .int p1)] [] := by
  unfold f_J12_max_b0 at hf
  refine zr_iload_n C0 dJ12_max_0 rfl 0 rfl ?_
  refine zr_iload_n C0 dJ12_max_1 rfl 1 rfl ?_
  refine zr_icmp_lt C0 (tgt := 9) dJ12_max_2 (by decide) (fun c1 => ?_) (fun c1 => ?_)
  · have hf := zif_t c1 hf
    refine zr_iload_n C0 dJ12_max_9 rfl 1 rfl ?_
    refine zr_sub [] rfl ?_
    exact w_J12_max_b10 C0 hf
  · have hf := zif_f c1 hf
    refine zr_iload_n C0 dJ12_max_5 rfl 0 rfl ?_
    refine zr_goto C0 (tgt := 10) dJ12_max_6 (by decide) ?_
    refine zr_sub [] rfl ?_
    exact w_J12_max_b10 C0 hf
def f_J12_max (E : zE) (p0 : Int32) (p1 : Int32) (h : zH) : Option (Int32 × zH) := f_J12_max_b0 E p0 p1 h
theorem m_J12_max {l : Launch} (hst : l.stackTraces = false) {D : zD} {B0 : Nat} {E : zE} {p0 : Int32} {p1 : Int32} {h h' : zH} {r : Int32} (hf : f_J12_max E p0 p1 h = some (r, h')) : zMet l yJ12_max (ws_ yJ12_max cJ12_max 2 (Option.some Jvm.ClassFile.FieldType.int)) 1 60 D B0 E [.int p0, .int p1] h (zoI r) h' := by
  unfold f_J12_max at hf
  refine zMet_ofF hst (by decide +kernel) rfl rfl (Nat.le_of_ble_eq_true rfl) (fun p e R s m below meth c C0 hno => ?_)
  show zW _ _ _ _ _ _ _ _ _ _ _ _ _ _ _ _ [(0, .int p0), (1, .int p1)] []
  exact w_J12_max_b0 C0 hf
def f_J11_hugeLength_b0 (E : zE) (p0 : Int32) (p1 : Int32) (h : zH) : Option (Int32 × zH) :=
  if 0 ≤ (p0 + p1) then (
    if (2147483639 : Int32) < (p0 + p1) then (
      some ((p0 + p1), h)
    ) else (
      some ((2147483639 : Int32), h)
    )
  ) else (
    none
  )
theorem w_J11_hugeLength_b0 (C0 : zCx p l e R s m args below meth c D B0 3 "jdk/internal/util/ArraysSupport" cJ11_hugeLength E 1 60 (Option.some Jvm.ClassFile.FieldType.int) "hugeLength") {r : Int32} {h' : zH} {p0 : Int32} {p1 : Int32} {h : zH} (hf : f_J11_hugeLength_b0 E p0 p1 h = some (r, h')) : zW p l e R s m args below meth c D B0 3 (zEnd D B0 R below args s (zoI r) h') h 0 [(0, .int p0), (1, .int p1)] [] := by
  unfold f_J11_hugeLength_b0 at hf
  refine zr_iload_n C0 dJ11_hugeLength_0 rfl 0 rfl ?_
  refine zr_iload_n C0 dJ11_hugeLength_1 rfl 1 rfl ?_
  refine zr_iadd C0 dJ11_hugeLength_2 ?_
  refine zr_istore_n (i := 2) (lv' := [(2, .int (p0 + p1)), (0, .int p0), (1, .int p1)]) C0 dJ11_hugeLength_3 rfl (by decide) (by first | rfl | simp [zst1, zst2, zcat_rf]) ?_
  refine zr_iload_n C0 dJ11_hugeLength_4 rfl 0 rfl ?_
  refine zr_if_ge C0 (tgt := 49) dJ11_hugeLength_5 (by decide) (fun c1 => ?_) (fun c1 => ?_)
  · have hf := zif_t c1 hf
    refine zr_iload_n C0 dJ11_hugeLength_49 rfl 0 rfl ?_
    refine zr_ldc C0 (v := 2147483639) q309 dJ11_hugeLength_50 ?_
    refine zr_icmp_gt C0 (tgt := 58) dJ11_hugeLength_52 (by decide) (fun c2 => ?_) (fun c2 => ?_)
    · have hf := zif_t c2 hf
      refine zr_iload_n C0 dJ11_hugeLength_58 rfl 0 rfl ?_
      refine zretW hf ?_
      exact zr_iret C0 (ty := .int) rfl rfl dJ11_hugeLength_59 rfl
    · have hf := zif_f c2 hf
      refine zr_ldc C0 (v := 2147483639) q309 dJ11_hugeLength_55 ?_
      refine zretW hf ?_
      exact zr_iret C0 (ty := .int) rfl rfl dJ11_hugeLength_57 rfl
  · have hf := zif_f c1 hf
    cases hf
def f_J11_hugeLength (E : zE) (p0 : Int32) (p1 : Int32) (h : zH) : Option (Int32 × zH) := f_J11_hugeLength_b0 E p0 p1 h
theorem m_J11_hugeLength {l : Launch} (hst : l.stackTraces = false) {D : zD} {B0 : Nat} {E : zE} {p0 : Int32} {p1 : Int32} {h h' : zH} {r : Int32} (hf : f_J11_hugeLength E p0 p1 h = some (r, h')) : zMet l yJ11_hugeLength (ws_ yJ11_hugeLength cJ11_hugeLength 3 (Option.some Jvm.ClassFile.FieldType.int)) 1 60 D B0 E [.int p0, .int p1] h (zoI r) h' := by
  unfold f_J11_hugeLength at hf
  refine zMet_of hst (by decide +kernel) rfl rfl (Nat.le_of_ble_eq_true rfl) (fun p e R s m below meth c C0 hno => ?_)
  show zW _ _ _ _ _ _ _ _ _ _ _ _ _ _ _ _ [(0, .int p0), (1, .int p1)] []
  exact w_J11_hugeLength_b0 C0 hf
def f_J11_newLength_b21 (E : zE) (p0 : Int32) (p1 : Int32) (h : zH) : Option (Int32 × zH) :=
  bnd2 (f_J11_hugeLength E p0 p1 h) fun x3 h1 =>
  some (x3, h1)
theorem w_J11_newLength_b21 (C0 : zCx p l e R s m args below meth c D B0 4 "jdk/internal/util/ArraysSupport" cJ11_newLength E 2 82 (Option.some Jvm.ClassFile.FieldType.int) "newLength") {r : Int32} {h' : zH} {p0 : Int32} {p1 : Int32} {h : zH} (hf : f_J11_newLength_b21 E p0 p1 h = some (r, h')) : zW p l e R s m args below meth c D B0 4 (zEnd D B0 R below args s (zoI r) h') h 21 [(0, .int p0), (1, .int p1)] [] := by
  unfold f_J11_newLength_b21 at hf
  refine zr_iload_n C0 dJ11_newLength_21 rfl 0 rfl ?_
  refine zr_iload_n C0 dJ11_newLength_22 rfl 1 rfl ?_
  obtain ⟨x3, h1, e2, hf⟩ := zbind2 hf
  refine zr_callS_r C0 cv_J11_201 (m_J11_hugeLength C0.2.2.2.2.2.2.1 e2) (by decide) (by decide) rfl rfl (Nat.le_of_ble_eq_true rfl) dJ11_newLength_23 rfl ?_
  refine zretW hf ?_
  exact zr_iret C0 (ty := .int) rfl rfl dJ11_newLength_26 rfl
def f_J11_newLength_b0 (E : zE) (p0 : Int32) (p1 : Int32) (p2 : Int32) (h : zH) : Option (Int32 × zH) :=
  bnd2 (f_J12_max E p1 p2 h) fun x3 h1 =>
  if (p0 + x3) ≤ (0 : Int32) then (
    f_J11_newLength_b21 E p0 p1 h1
  ) else (
    if (2147483639 : Int32) < (p0 + x3) then (
      f_J11_newLength_b21 E p0 p1 h1
    ) else (
      some ((p0 + x3), h1)
    )
  )
theorem w_J11_newLength_b0 (C0 : zCx p l e R s m args below meth c D B0 4 "jdk/internal/util/ArraysSupport" cJ11_newLength E 2 82 (Option.some Jvm.ClassFile.FieldType.int) "newLength") {r : Int32} {h' : zH} {p0 : Int32} {p1 : Int32} {p2 : Int32} {h : zH} (hf : f_J11_newLength_b0 E p0 p1 p2 h = some (r, h')) : zW p l e R s m args below meth c D B0 4 (zEnd D B0 R below args s (zoI r) h') h 0 [(0, .int p0), (1, .int p1), (2, .int p2)] [] := by
  unfold f_J11_newLength_b0 at hf
  refine zr_iload_n C0 dJ11_newLength_0 rfl 0 rfl ?_
  refine zr_iload_n C0 dJ11_newLength_1 rfl 1 rfl ?_
  refine zr_iload_n C0 dJ11_newLength_2 rfl 2 rfl ?_
  obtain ⟨x3, h1, e2, hf⟩ := zbind2 hf
  refine zr_callS_r C0 cv_J11_194 (m_J12_max C0.2.2.2.2.2.2.1 e2) (by decide) (by decide) rfl rfl (Nat.le_of_ble_eq_true rfl) dJ11_newLength_3 rfl ?_
  refine zr_iadd C0 dJ11_newLength_6 ?_
  refine zr_istore_n (i := 3) (lv' := [(3, .int (p0 + x3)), (0, .int p0), (1, .int p1), (2, .int p2)]) C0 dJ11_newLength_7 rfl (by decide) (by first | rfl | simp [zst1, zst2, zcat_rf]) ?_
  refine zr_iconst C0 (v := 0) dJ11_newLength_8 (by decide) ?_
  refine zr_iload_n C0 dJ11_newLength_9 rfl 0 rfl ?_
  refine zr_icmp_ge C0 (tgt := 21) dJ11_newLength_10 (by decide) (fun c4 => ?_) (fun c4 => ?_)
  · have hf := zif_t c4 hf
    refine zr_sub [1, 2] rfl ?_
    exact w_J11_newLength_b21 C0 hf
  · have hf := zif_f c4 hf
    refine zr_iload_n C0 dJ11_newLength_13 rfl 0 rfl ?_
    refine zr_ldc C0 (v := 2147483639) q309 dJ11_newLength_14 ?_
    refine zr_icmp_gt C0 (tgt := 21) dJ11_newLength_16 (by decide) (fun c5 => ?_) (fun c5 => ?_)
    · have hf := zif_t c5 hf
      refine zr_sub [1, 2] rfl ?_
      exact w_J11_newLength_b21 C0 hf
    · have hf := zif_f c5 hf
      refine zr_iload_n C0 dJ11_newLength_19 rfl 0 rfl ?_
      refine zretW hf ?_
      exact zr_iret C0 (ty := .int) rfl rfl dJ11_newLength_20 rfl
def f_J11_newLength (E : zE) (p0 : Int32) (p1 : Int32) (p2 : Int32) (h : zH) : Option (Int32 × zH) := f_J11_newLength_b0 E p0 p1 p2 h
theorem m_J11_newLength {l : Launch} (hst : l.stackTraces = false) {D : zD} {B0 : Nat} {E : zE} {p0 : Int32} {p1 : Int32} {p2 : Int32} {h h' : zH} {r : Int32} (hf : f_J11_newLength E p0 p1 p2 h = some (r, h')) : zMet l yJ11_newLength (ws_ yJ11_newLength cJ11_newLength 4 (Option.some Jvm.ClassFile.FieldType.int)) 2 82 D B0 E [.int p0, .int p1, .int p2] h (zoI r) h' := by
  unfold f_J11_newLength at hf
  refine zMet_of hst (by decide +kernel) rfl rfl (Nat.le_of_ble_eq_true rfl) (fun p e R s m below meth c C0 hno => ?_)
  show zW _ _ _ _ _ _ _ _ _ _ _ _ _ _ _ _ [(0, .int p0), (1, .int p1), (2, .int p2)] []
  exact w_J11_newLength_b0 C0 hf
def f_J12_min_b10 (E : zE) (s0 : Int32) (h : zH) : Option (Int32 × zH) :=
  some (s0, h)
theorem w_J12_min_b10 (C0 : zCx p l e R s m args below meth c D B0 2 "java/lang/Math" cJ12_min E 1 60 (Option.some Jvm.ClassFile.FieldType.int) "min") {r : Int32} {h' : zH} {s0 : Int32} {h : zH} (hf : f_J12_min_b10 E s0 h = some (r, h')) : zW p l e R s m args below meth c D B0 2 (zEnd D B0 R below args s (zoI r) h') h 10 [] [.int s0] := by
  unfold f_J12_min_b10 at hf
  refine zretW hf ?_
  exact zr_iret C0 (ty := .int) rfl rfl dJ12_min_10 rfl
def f_J12_min_b0 (E : zE) (p0 : Int32) (p1 : Int32) (h : zH) : Option (Int32 × zH) :=
  if p1 < p0 then (
    f_J12_min_b10 E p1 h
  ) else (
    f_J12_min_b10 E p0 h
  )
theorem w_J12_min_b0 (C0 : zCx p l e R s m args below meth c D B0 2 "java/lang/Math" cJ12_min E 1 60 (Option.some Jvm.ClassFile.FieldType.int) "min") {r : Int32} {h' : zH} {p0 : Int32} {p1 : Int32} {h : zH} (hf : f_J12_min_b0 E p0 p1 h = some (r, h')) : zW p l e R s m args below meth c D B0 2 (zEnd D B0 R below args s (zoI r) h') h 0 [(0, .int p0), (1, .int p1)] [] := by
  unfold f_J12_min_b0 at hf
  refine zr_iload_n C0 dJ12_min_0 rfl 0 rfl ?_
  refine zr_iload_n C0 dJ12_min_1 rfl 1 rfl ?_
  refine zr_icmp_gt C0 (tgt := 9) dJ12_min_2 (by decide) (fun c1 => ?_) (fun c1 => ?_)
  · have hf := zif_t c1 hf
    refine zr_iload_n C0 dJ12_min_9 rfl 1 rfl ?_
    refine zr_sub [] rfl ?_
    exact w_J12_min_b10 C0 hf
  · have hf := zif_f c1 hf
    refine zr_iload_n C0 dJ12_min_5 rfl 0 rfl ?_
    refine zr_goto C0 (tgt := 10) dJ12_min_6 (by decide) ?_
    refine zr_sub [] rfl ?_
    exact w_J12_min_b10 C0 hf
def f_J12_min (E : zE) (p0 : Int32) (p1 : Int32) (h : zH) : Option (Int32 × zH) := f_J12_min_b0 E p0 p1 h
theorem m_J12_min {l : Launch} (hst : l.stackTraces = false) {D : zD} {B0 : Nat} {E : zE} {p0 : Int32} {p1 : Int32} {h h' : zH} {r : Int32} (hf : f_J12_min E p0 p1 h = some (r, h')) : zMet l yJ12_min (ws_ yJ12_min cJ12_min 2 (Option.some Jvm.ClassFile.FieldType.int)) 1 60 D B0 E [.int p0, .int p1] h (zoI r) h' := by
  unfold f_J12_min at hf
  refine zMet_ofF hst (by decide +kernel) rfl rfl (Nat.le_of_ble_eq_true rfl) (fun p e R s m below meth c C0 hno => ?_)
  show zW _ _ _ _ _ _ _ _ _ _ _ _ _ _ _ _ [(0, .int p0), (1, .int p1)] []
  exact w_J12_min_b0 C0 hf
def f_J13_copyOf_3_b24 (E : zE) (p0 : Nat) (p1 : Int32) (s0 : Nat) (h : zH) : Option (Nat × zH) :=
  (lenA h p0).bind fun x1 =>
  bnd2 (f_J12_min E x1 p1 h) fun x5 h3 =>
  (cpA h3 p0 (0 : Int32) s0 (0 : Int32) x5).bind fun h6 =>
  some (s0, h6)
theorem w_J13_copyOf_3_b24 (C0 : zCx p l e R s m args below meth c D B0 4 "java/util/Arrays" cJ13_copyOf_3 E 2 81 (Option.some (Jvm.ClassFile.FieldType.array (Jvm.ClassFile.FieldType.object "java/lang/Object"))) "copyOf") {r : Nat} {h' : zH} {p0 : Nat} {p1 : Int32} {s0 : Nat} {h : zH} (hf : f_J13_copyOf_3_b24 E p0 p1 s0 h = some (r, h')) : zW p l e R s m args below meth c D B0 4 (zEnd D B0 R below args s (zoR r) h') h 24 [(0, .ref p0), (1, .int p1)] [.ref s0] := by
  unfold f_J13_copyOf_3_b24 at hf
  refine zr_astore_n (i := 3) (lv' := [(3, .ref s0), (0, .ref p0), (1, .int p1)]) C0 dJ13_copyOf_3_24 rfl (by decide) (by first | rfl | simp [zst1, zst2, zcat_rf]) ?_
  refine zr_aload_n C0 dJ13_copyOf_3_25 rfl 1 rfl ?_
  refine zr_iconst C0 (v := 0) dJ13_copyOf_3_26 (by decide) ?_
  refine zr_aload_n C0 dJ13_copyOf_3_27 rfl 0 rfl ?_
  refine zr_iconst C0 (v := 0) dJ13_copyOf_3_28 (by decide) ?_
  refine zr_aload_n C0 dJ13_copyOf_3_29 rfl 1 rfl ?_
  obtain ⟨x1, e2, hf⟩ := zbind hf
  refine zr_alen C0 dJ13_copyOf_3_30 e2 ?_
  refine zr_iload_n C0 dJ13_copyOf_3_31 rfl 2 rfl ?_
  obtain ⟨x5, h3, e4, hf⟩ := zbind2 hf
  refine zr_callS_r C0 cv_J13_304 (m_J12_min C0.2.2.2.2.2.2.1 e4) (by decide) (by decide) rfl rfl (Nat.le_of_ble_eq_true rfl) dJ13_copyOf_3_32 rfl ?_
  obtain ⟨h6, e7, hf⟩ := zbind hf
  refine zr_copy C0 q327 (by decide) (Nat.le_of_ble_eq_true rfl) dJ13_copyOf_3_35 e7 ?_
  refine zr_aload_n C0 dJ13_copyOf_3_38 rfl 0 rfl ?_
  refine zretW hf ?_
  exact zr_aret C0 rfl (Or.inr ⟨_, rfl⟩) dJ13_copyOf_3_39 rfl
def f_J13_copyOf_3_b0 (E : zE) (p0 : Nat) (p1 : Int32) (p2 : Nat) (h : zH) : Option (Nat × zH) :=
  if ((some p2) : Option Nat) = (some (E.2.1 101)) then (
    bnd2 (nA h 4 p1 (.inr (.inr fun _ => none))) fun q2 h3 =>
    f_J13_copyOf_3_b24 E p0 p1 q2 h3
  ) else (
    none
  )
theorem w_J13_copyOf_3_b0 (C0 : zCx p l e R s m args below meth c D B0 4 "java/util/Arrays" cJ13_copyOf_3 E 2 81 (Option.some (Jvm.ClassFile.FieldType.array (Jvm.ClassFile.FieldType.object "java/lang/Object"))) "copyOf") {r : Nat} {h' : zH} {p0 : Nat} {p1 : Int32} {p2 : Nat} {h : zH} (hf : f_J13_copyOf_3_b0 E p0 p1 p2 h = some (r, h')) : zW p l e R s m args below meth c D B0 4 (zEnd D B0 R below args s (zoR r) h') h 0 [(0, .ref p0), (1, .int p1), (2, .ref p2)] [] := by
  unfold f_J13_copyOf_3_b0 at hf
  refine zr_aload_n C0 dJ13_copyOf_3_0 rfl 2 rfl ?_
  refine zr_ldcM C0 q1024 dJ13_copyOf_3_1 ?_
  refine zr_acmp_ne C0 (rx := (some p2)) (ry := (some (E.2.1 101))) (tgt := 13) dJ13_copyOf_3_3 (by decide) (fun c1 => ?_) (fun c1 => ?_)
  · have hf := zif_f c1 hf
    refine zr_aload_n C0 dJ13_copyOf_3_13 rfl 2 rfl ?_
    cases hf
  · have hf := zif_t c1 hf
    refine zr_iload_n C0 dJ13_copyOf_3_6 rfl 1 rfl ?_
    obtain ⟨q2, h3, e4, hf⟩ := zbind2 hf
    refine zr_anew4 C0 q1025 dJ13_copyOf_3_7 e4 ?_
    refine zr_goto C0 (tgt := 24) dJ13_copyOf_3_10 (by decide) ?_
    refine zr_sub [0, 1] rfl ?_
    exact w_J13_copyOf_3_b24 C0 hf
def f_J13_copyOf_3 (E : zE) (p0 : Nat) (p1 : Int32) (p2 : Nat) (h : zH) : Option (Nat × zH) := f_J13_copyOf_3_b0 E p0 p1 p2 h
theorem m_J13_copyOf_3 {l : Launch} (hst : l.stackTraces = false) {D : zD} {B0 : Nat} {E : zE} {p0 : Nat} {p1 : Int32} {p2 : Nat} {h h' : zH} {r : Nat} (hf : f_J13_copyOf_3 E p0 p1 p2 h = some (r, h')) : zMet l yJ13_copyOf_3 (ws_ yJ13_copyOf_3 cJ13_copyOf_3 4 (Option.some (Jvm.ClassFile.FieldType.array (Jvm.ClassFile.FieldType.object "java/lang/Object")))) 2 81 D B0 E [.ref p0, .int p1, .ref p2] h (zoR r) h' := by
  unfold f_J13_copyOf_3 at hf
  refine zMet_of hst (by decide +kernel) rfl rfl (Nat.le_of_ble_eq_true rfl) (fun p e R s m below meth c C0 hno => ?_)
  show zW _ _ _ _ _ _ _ _ _ _ _ _ _ _ _ _ [(0, .ref p0), (1, .int p1), (2, .ref p2)] []
  exact w_J13_copyOf_3_b0 C0 hf
def f_J13_copyOf_2_b0 (E : zE) (p0 : Nat) (p1 : Int32) (h : zH) : Option (Nat × zH) :=
  (cka h p0 4).bind fun _ =>
  bnd2 (f_J13_copyOf_3 E p0 p1 (E.2.1 101) h) fun x4 h2 =>
  some (x4, h2)
theorem w_J13_copyOf_2_b0 (C0 : zCx p l e R s m args below meth c D B0 2 "java/util/Arrays" cJ13_copyOf_2 E 3 104 (Option.some (Jvm.ClassFile.FieldType.array (Jvm.ClassFile.FieldType.object "java/lang/Object"))) "copyOf") {r : Nat} {h' : zH} {p0 : Nat} {p1 : Int32} {h : zH} (hf : f_J13_copyOf_2_b0 E p0 p1 h = some (r, h')) : zW p l e R s m args below meth c D B0 2 (zEnd D B0 R below args s (zoR r) h') h 0 [(0, .ref p0), (1, .int p1)] [] := by
  unfold f_J13_copyOf_2_b0 at hf
  refine zr_aload_n C0 dJ13_copyOf_2_0 rfl 0 rfl ?_
  refine zr_iload_n C0 dJ13_copyOf_2_1 rfl 1 rfl ?_
  refine zr_aload_n C0 dJ13_copyOf_2_2 rfl 0 rfl ?_
  obtain ⟨_, e1, hf⟩ := zbind hf
  refine zr_getC C0 (zcka e1) q990 (by decide) (Nat.le_of_ble_eq_true rfl) dJ13_copyOf_2_3 ?_
  obtain ⟨x4, h2, e3, hf⟩ := zbind2 hf
  refine zr_callS_r C0 cv_J13_300 (m_J13_copyOf_3 C0.2.2.2.2.2.2.1 e3) (by decide) (by decide) rfl rfl (Nat.le_of_ble_eq_true rfl) dJ13_copyOf_2_6 rfl ?_
  refine zretW hf ?_
  exact zr_aret C0 rfl (Or.inr ⟨_, rfl⟩) dJ13_copyOf_2_9 rfl
def f_J13_copyOf_2 (E : zE) (p0 : Nat) (p1 : Int32) (h : zH) : Option (Nat × zH) := f_J13_copyOf_2_b0 E p0 p1 h
theorem m_J13_copyOf_2 {l : Launch} (hst : l.stackTraces = false) {D : zD} {B0 : Nat} {E : zE} {p0 : Nat} {p1 : Int32} {h h' : zH} {r : Nat} (hf : f_J13_copyOf_2 E p0 p1 h = some (r, h')) : zMet l yJ13_copyOf_2 (ws_ yJ13_copyOf_2 cJ13_copyOf_2 2 (Option.some (Jvm.ClassFile.FieldType.array (Jvm.ClassFile.FieldType.object "java/lang/Object")))) 3 104 D B0 E [.ref p0, .int p1] h (zoR r) h' := by
  unfold f_J13_copyOf_2 at hf
  refine zMet_of hst (by decide +kernel) rfl rfl (Nat.le_of_ble_eq_true rfl) (fun p e R s m below meth c C0 hno => ?_)
  show zW _ _ _ _ _ _ _ _ _ _ _ _ _ _ _ _ [(0, .ref p0), (1, .int p1)] []
  exact w_J13_copyOf_2_b0 C0 hf
def f_J2_grow_2_b20 (E : zE) (p0 : Nat) (p1 : Int32) (p2 : Int32) (h : zH) : Option (Nat × zH) :=
  bnd2 (f_J11_newLength E p2 (p1 - p2) (p2 >>> ((1 : Int32) &&& 31)) h) fun x3 h1 =>
  (gR h1 p0 15 1).bind fun x4 =>
  bnd2 (f_J13_copyOf_2 E x4 x3 h1) fun x8 h6 =>
  (pF h6 p0 15 1 (.ref x8)).bind fun h9 =>
  some (x8, h9)
theorem w_J2_grow_2_b20 (C0 : zCx p l e R s m args below meth c D B0 4 "java/util/ArrayList" cJ2_grow_2 E 4 125 (Option.some (Jvm.ClassFile.FieldType.array (Jvm.ClassFile.FieldType.object "java/lang/Object"))) "grow") {r : Nat} {h' : zH} {p0 : Nat} {p1 : Int32} {p2 : Int32} {h : zH} (hf : f_J2_grow_2_b20 E p0 p1 p2 h = some (r, h')) : zW p l e R s m args below meth c D B0 4 (zEnd D B0 R below args s (zoR r) h') h 20 [(0, .ref p0), (1, .int p1), (2, .int p2)] [] := by
  unfold f_J2_grow_2_b20 at hf
  refine zr_iload_n C0 dJ2_grow_2_20 rfl 2 rfl ?_
  refine zr_iload_n C0 dJ2_grow_2_21 rfl 1 rfl ?_
  refine zr_iload_n C0 dJ2_grow_2_22 rfl 2 rfl ?_
  refine zr_isub C0 dJ2_grow_2_23 ?_
  refine zr_iload_n C0 dJ2_grow_2_24 rfl 2 rfl ?_
  refine zr_iconst C0 (v := 1) dJ2_grow_2_25 (by decide) ?_
  refine zr_ishr C0 dJ2_grow_2_26 ?_
  obtain ⟨x3, h1, e2, hf⟩ := zbind2 hf
  refine zr_callS_r C0 cv_J2_73 (m_J11_newLength C0.2.2.2.2.2.2.1 e2) (by decide) (by decide) rfl rfl (Nat.le_of_ble_eq_true rfl) dJ2_grow_2_27 rfl ?_
  refine zr_istore_n (i := 3) (lv' := [(3, .int x3), (0, .ref p0), (1, .int p1), (2, .int p2)]) C0 dJ2_grow_2_30 rfl (by decide) (by first | rfl | simp [zst1, zst2, zcat_rf]) ?_
  refine zr_aload_n C0 dJ2_grow_2_31 rfl 1 rfl ?_
  refine zr_aload_n C0 dJ2_grow_2_32 rfl 1 rfl ?_
  obtain ⟨x4, e5, hf⟩ := zbind hf
  refine zr_get C0 fl_J2_9_J2 dJ2_grow_2_33 (zgR e5) ?_
  refine zr_iload_n C0 dJ2_grow_2_36 rfl 0 rfl ?_
  obtain ⟨x8, h6, e7, hf⟩ := zbind2 hf
  refine zr_callS_r C0 cv_J2_66 (m_J13_copyOf_2 C0.2.2.2.2.2.2.1 e7) (by decide) (by decide) rfl rfl (Nat.le_of_ble_eq_true rfl) dJ2_grow_2_37 rfl ?_
  refine zr_dup_x1 C0 dJ2_grow_2_40 rfl rfl ?_
  obtain ⟨h9, e10, hf⟩ := zbind hf
  refine zr_put C0 pl_J2_9_J2 dJ2_grow_2_41 (fun h => by cases h) rfl rfl e10 ?_
  refine zretW hf ?_
  exact zr_aret C0 rfl (Or.inr ⟨_, rfl⟩) dJ2_grow_2_44 rfl
def f_J2_grow_2_b0 (E : zE) (p0 : Nat) (p1 : Int32) (h : zH) : Option (Nat × zH) :=
  (gR h p0 15 1).bind fun x1 =>
  (lenA h x1).bind fun x3 =>
  if 0 < x3 then (
    f_J2_grow_2_b20 E p0 p1 x3 h
  ) else (
    (gR h p0 15 1).bind fun x6 =>
    none
  )
theorem w_J2_grow_2_b0 (C0 : zCx p l e R s m args below meth c D B0 4 "java/util/ArrayList" cJ2_grow_2 E 4 125 (Option.some (Jvm.ClassFile.FieldType.array (Jvm.ClassFile.FieldType.object "java/lang/Object"))) "grow") {r : Nat} {h' : zH} {p0 : Nat} {p1 : Int32} {h : zH} (hf : f_J2_grow_2_b0 E p0 p1 h = some (r, h')) : zW p l e R s m args below meth c D B0 4 (zEnd D B0 R below args s (zoR r) h') h 0 [(0, .ref p0), (1, .int p1)] [] := by
  unfold f_J2_grow_2_b0 at hf
  refine zr_aload_n C0 dJ2_grow_2_0 rfl 0 rfl ?_
  obtain ⟨x1, e2, hf⟩ := zbind hf
  refine zr_get C0 fl_J2_9_J2 dJ2_grow_2_1 (zgR e2) ?_
  obtain ⟨x3, e4, hf⟩ := zbind hf
  refine zr_alen C0 dJ2_grow_2_4 e4 ?_
  refine zr_istore_n (i := 2) (lv' := [(2, .int x3), (0, .ref p0), (1, .int p1)]) C0 dJ2_grow_2_5 rfl (by decide) (by first | rfl | simp [zst1, zst2, zcat_rf]) ?_
  refine zr_iload_n C0 dJ2_grow_2_6 rfl 0 rfl ?_
  refine zr_if_gt C0 (tgt := 20) dJ2_grow_2_7 (by decide) (fun c5 => ?_) (fun c5 => ?_)
  · have hf := zif_t c5 hf
    refine zr_sub [1, 2, 0] rfl ?_
    exact w_J2_grow_2_b20 C0 hf
  · have hf := zif_f c5 hf
    refine zr_aload_n C0 dJ2_grow_2_10 rfl 1 rfl ?_
    obtain ⟨x6, e7, hf⟩ := zbind hf
    refine zr_get C0 fl_J2_9_J2 dJ2_grow_2_11 (zgR e7) ?_
    cases hf
def f_J2_grow_2 (E : zE) (p0 : Nat) (p1 : Int32) (h : zH) : Option (Nat × zH) := f_J2_grow_2_b0 E p0 p1 h
theorem m_J2_grow_2 {l : Launch} (hst : l.stackTraces = false) {D : zD} {B0 : Nat} {E : zE} {p0 : Nat} {p1 : Int32} {h h' : zH} {r : Nat} (hf : f_J2_grow_2 E p0 p1 h = some (r, h')) : zMet l yJ2_grow_2 (ws_ yJ2_grow_2 cJ2_grow_2 4 (Option.some (Jvm.ClassFile.FieldType.array (Jvm.ClassFile.FieldType.object "java/lang/Object")))) 4 125 D B0 E [.ref p0, .int p1] h (zoR r) h' := by
  unfold f_J2_grow_2 at hf
  refine zMet_of hst (by decide +kernel) rfl rfl (Nat.le_of_ble_eq_true rfl) (fun p e R s m below meth c C0 hno => ?_)
  show zW _ _ _ _ _ _ _ _ _ _ _ _ _ _ _ _ [(0, .ref p0), (1, .int p1)] []
  exact w_J2_grow_2_b0 C0 hf
def f_J2_grow_b0 (E : zE) (p0 : Nat) (h : zH) : Option (Nat × zH) :=
  (gI h p0 15 2).bind fun x1 =>
  (cko h p0 15).bind fun _ =>
  bnd2 (f_J2_grow_2 E p0 (x1 + (1 : Int32)) h) fun x6 h4 =>
  some (x6, h4)
theorem w_J2_grow_b0 (C0 : zCx p l e R s m args below meth c D B0 1 "java/util/ArrayList" cJ2_grow E 5 148 (Option.some (Jvm.ClassFile.FieldType.array (Jvm.ClassFile.FieldType.object "java/lang/Object"))) "grow") {r : Nat} {h' : zH} {p0 : Nat} {h : zH} (hf : f_J2_grow_b0 E p0 h = some (r, h')) : zW p l e R s m args below meth c D B0 1 (zEnd D B0 R below args s (zoR r) h') h 0 [(0, .ref p0)] [] := by
  unfold f_J2_grow_b0 at hf
  refine zr_aload_n C0 dJ2_grow_0 rfl 0 rfl ?_
  refine zr_aload_n C0 dJ2_grow_1 rfl 0 rfl ?_
  obtain ⟨x1, e2, hf⟩ := zbind hf
  refine zr_get C0 fl_J2_48_J2 dJ2_grow_2 (zgI e2) ?_
  refine zr_iconst C0 (v := 1) dJ2_grow_5 (by decide) ?_
  refine zr_iadd C0 dJ2_grow_6 ?_
  obtain ⟨_, e3, hf⟩ := zbind hf
  obtain ⟨x6, h4, e5, hf⟩ := zbind2 hf
  refine zr_callV_r C0 cv_J2_69_J2 rfl (zcko e3) (m_J2_grow_2 C0.2.2.2.2.2.2.1 e5) (by decide) (by decide) rfl rfl (Nat.le_of_ble_eq_true rfl) dJ2_grow_7 rfl ?_
  refine zretW hf ?_
  exact zr_aret C0 rfl (Or.inr ⟨_, rfl⟩) dJ2_grow_10 rfl
def f_J2_grow (E : zE) (p0 : Nat) (h : zH) : Option (Nat × zH) := f_J2_grow_b0 E p0 h
theorem m_J2_grow {l : Launch} (hst : l.stackTraces = false) {D : zD} {B0 : Nat} {E : zE} {p0 : Nat} {h h' : zH} {r : Nat} (hf : f_J2_grow E p0 h = some (r, h')) : zMet l yJ2_grow (ws_ yJ2_grow cJ2_grow 1 (Option.some (Jvm.ClassFile.FieldType.array (Jvm.ClassFile.FieldType.object "java/lang/Object")))) 5 148 D B0 E [.ref p0] h (zoR r) h' := by
  unfold f_J2_grow at hf
  refine zMet_of hst (by decide +kernel) rfl rfl (Nat.le_of_ble_eq_true rfl) (fun p e R s m below meth c C0 hno => ?_)
  show zW _ _ _ _ _ _ _ _ _ _ _ _ _ _ _ _ [(0, .ref p0)] []
  exact w_J2_grow_b0 C0 hf
def f_J2_add_2_b11 (E : zE) (p0 : Nat) (p1 : Nat) (p2 : Nat) (p3 : Int32) (h : zH) : Option (Unit × zH) :=
  (sR h p2 p3 p1).bind fun h1 =>
  (pF h1 p0 15 2 (.int (p3 + (1 : Int32)))).bind fun h3 =>
  some ((), h3)
theorem w_J2_add_2_b11 (C0 : zCx p l e R s m args below meth c D B0 4 "java/util/ArrayList" cJ2_add_2 E 6 168 (Option.none : Option Jvm.ClassFile.FieldType) "add") {r : Unit} {h' : zH} {p0 : Nat} {p1 : Nat} {p2 : Nat} {p3 : Int32} {h : zH} (hf : f_J2_add_2_b11 E p0 p1 p2 p3 h = some (r, h')) : zW p l e R s m args below meth c D B0 4 (zEnd D B0 R below args s (zoV r) h') h 11 [(0, .ref p0), (1, .ref p1), (2, .ref p2), (3, .int p3)] [] := by
  unfold f_J2_add_2_b11 at hf
  refine zr_aload_n C0 dJ2_add_2_11 rfl 2 rfl ?_
  refine zr_iload_n C0 dJ2_add_2_12 rfl 3 rfl ?_
  refine zr_aload_n C0 dJ2_add_2_13 rfl 1 rfl ?_
  obtain ⟨h1, e2, hf⟩ := zbind hf
  refine zr_aast C0 dJ2_add_2_14 e2 ?_
  refine zr_aload_n C0 dJ2_add_2_15 rfl 0 rfl ?_
  refine zr_iload_n C0 dJ2_add_2_16 rfl 3 rfl ?_
  refine zr_iconst C0 (v := 1) dJ2_add_2_17 (by decide) ?_
  refine zr_iadd C0 dJ2_add_2_18 ?_
  obtain ⟨h3, e4, hf⟩ := zbind hf
  refine zr_put C0 pl_J2_48_J2 dJ2_add_2_19 (fun h => by cases h) rfl rfl e4 ?_
  refine zretW hf ?_
  exact zr_vret C0 rfl dJ2_add_2_22 rfl
def f_J2_add_2_b0 (E : zE) (p0 : Nat) (p1 : Nat) (p2 : Nat) (p3 : Int32) (h : zH) : Option (Unit × zH) :=
  (lenA h p2).bind fun x1 =>
  if p3 = x1 then (
    (cko h p0 15).bind fun _ =>
    bnd2 (f_J2_grow E p0 h) fun x7 h5 =>
    f_J2_add_2_b11 E p0 p1 x7 p3 h5
  ) else (
    f_J2_add_2_b11 E p0 p1 p2 p3 h
  )
theorem w_J2_add_2_b0 (C0 : zCx p l e R s m args below meth c D B0 4 "java/util/ArrayList" cJ2_add_2 E 6 168 (Option.none : Option Jvm.ClassFile.FieldType) "add") {r : Unit} {h' : zH} {p0 : Nat} {p1 : Nat} {p2 : Nat} {p3 : Int32} {h : zH} (hf : f_J2_add_2_b0 E p0 p1 p2 p3 h = some (r, h')) : zW p l e R s m args below meth c D B0 4 (zEnd D B0 R below args s (zoV r) h') h 0 [(0, .ref p0), (1, .ref p1), (2, .ref p2), (3, .int p3)] [] := by
  unfold f_J2_add_2_b0 at hf
  refine zr_iload_n C0 dJ2_add_2_0 rfl 3 rfl ?_
  refine zr_aload_n C0 dJ2_add_2_1 rfl 2 rfl ?_
  obtain ⟨x1, e2, hf⟩ := zbind hf
  refine zr_alen C0 dJ2_add_2_2 e2 ?_
  refine zr_icmp_ne C0 (tgt := 11) dJ2_add_2_3 (by decide) (fun c3 => ?_) (fun c3 => ?_)
  · have hf := zif_f c3 hf
    exact w_J2_add_2_b11 C0 hf
  · have hf := zif_t c3 hf
    refine zr_aload_n C0 dJ2_add_2_6 rfl 0 rfl ?_
    obtain ⟨_, e4, hf⟩ := zbind hf
    obtain ⟨x7, h5, e6, hf⟩ := zbind2 hf
    refine zr_callV_r C0 cv_J2_129_J2 rfl (zcko e4) (m_J2_grow C0.2.2.2.2.2.2.1 e6) (by decide) (by decide) rfl rfl (Nat.le_of_ble_eq_true rfl) dJ2_add_2_7 rfl ?_
    refine zr_astore_n (i := 2) (lv' := [(2, .ref x7), (0, .ref p0), (1, .ref p1), (3, .int p3)]) C0 dJ2_add_2_10 rfl (by decide) (by first | rfl | simp [zst1, zst2, zcat_rf]) ?_
    refine zr_sub [1, 2, 0, 3] rfl ?_
    exact w_J2_add_2_b11 C0 hf
def f_J2_add_2 (E : zE) (p0 : Nat) (p1 : Nat) (p2 : Nat) (p3 : Int32) (h : zH) : Option (Unit × zH) := f_J2_add_2_b0 E p0 p1 p2 p3 h
theorem m_J2_add_2 {l : Launch} (hst : l.stackTraces = false) {D : zD} {B0 : Nat} {E : zE} {p0 : Nat} {p1 : Nat} {p2 : Nat} {p3 : Int32} {h h' : zH} {r : Unit} (hf : f_J2_add_2 E p0 p1 p2 p3 h = some (r, h')) : zMet l yJ2_add_2 (ws_ yJ2_add_2 cJ2_add_2 4 (Option.none : Option Jvm.ClassFile.FieldType)) 6 168 D B0 E [.ref p0, .ref p1, .ref p2, .int p3] h (zoV r) h' := by
  unfold f_J2_add_2 at hf
  refine zMet_of hst (by decide +kernel) rfl rfl (Nat.le_of_ble_eq_true rfl) (fun p e R s m below meth c C0 hno => ?_)
  show zW _ _ _ _ _ _ _ _ _ _ _ _ _ _ _ _ [(0, .ref p0), (1, .ref p1), (2, .ref p2), (3, .int p3)] []
  exact w_J2_add_2_b0 C0 hf
def f_J2_add_b0 (E : zE) (p0 : Nat) (p1 : Nat) (h : zH) : Option (Int32 × zH) :=
  (gI h p0 15 0).bind fun x1 =>
  (pF h p0 15 0 (.int (x1 + (1 : Int32)))).bind fun h3 =>
  (gR h3 p0 15 1).bind fun x5 =>
  (gI h3 p0 15 2).bind fun x7 =>
  (cko h3 p0 15).bind fun _ =>
  bnd2 (f_J2_add_2 E p0 p1 x5 x7 h3) fun x12 h10 =>
  some ((1 : Int32), h10)
theorem w_J2_add_b0 (C0 : zCx p l e R s m args below meth c D B0 2 "java/util/ArrayList" cJ2_add E 7 191 (Option.some Jvm.ClassFile.FieldType.boolean) "add") {r : Int32} {h' : zH} {p0 : Nat} {p1 : Nat} {h : zH} (hf : f_J2_add_b0 E p0 p1 h = some (r, h')) : zW p l e R s m args below meth c D B0 2 (zEnd D B0 R below args s (zoI r) h') h 0 [(0, .ref p0), (1, .ref p1)] [] := by
  unfold f_J2_add_b0 at hf
  refine zr_aload_n C0 dJ2_add_0 rfl 0 rfl ?_
  refine zr_dup C0 dJ2_add_1 rfl ?_
  obtain ⟨x1, e2, hf⟩ := zbind hf
  refine zr_get C0 fl_J2_63_J2 dJ2_add_2 (zgI e2) ?_
  refine zr_iconst C0 (v := 1) dJ2_add_5 (by decide) ?_
  refine zr_iadd C0 dJ2_add_6 ?_
  obtain ⟨h3, e4, hf⟩ := zbind hf
  refine zr_put C0 pl_J2_63_J2 dJ2_add_7 (fun h => by cases h) rfl rfl e4 ?_
  refine zr_aload_n C0 dJ2_add_10 rfl 0 rfl ?_
  refine zr_aload_n C0 dJ2_add_11 rfl 1 rfl ?_
  refine zr_aload_n C0 dJ2_add_12 rfl 0 rfl ?_
  obtain ⟨x5, e6, hf⟩ := zbind hf
  refine zr_get C0 fl_J2_9_J2 dJ2_add_13 (zgR e6) ?_
  refine zr_aload_n C0 dJ2_add_16 rfl 0 rfl ?_
  obtain ⟨x7, e8, hf⟩ := zbind hf
  refine zr_get C0 fl_J2_48_J2 dJ2_add_17 (zgI e8) ?_
  obtain ⟨_, e9, hf⟩ := zbind hf
  obtain ⟨x12, h10, e11, hf⟩ := zbind2 hf
  refine zr_callV_r C0 cv_J2_131_J2 rfl (zcko e9) (m_J2_add_2 C0.2.2.2.2.2.2.1 e11) (by decide) (by decide) rfl rfl (Nat.le_of_ble_eq_true rfl) dJ2_add_20 rfl ?_
  refine zr_iconst C0 (v := 1) dJ2_add_23 (by decide) ?_
  refine zretW hf ?_
  exact zr_iret C0 (ty := .boolean) rfl (by decide) dJ2_add_24 rfl
def f_J2_add (E : zE) (p0 : Nat) (p1 : Nat) (h : zH) : Option (Int32 × zH) := f_J2_add_b0 E p0 p1 h
theorem m_J2_add {l : Launch} (hst : l.stackTraces = false) {D : zD} {B0 : Nat} {E : zE} {p0 : Nat} {p1 : Nat} {h h' : zH} {r : Int32} (hf : f_J2_add E p0 p1 h = some (r, h')) : zMet l yJ2_add (ws_ yJ2_add cJ2_add 2 (Option.some Jvm.ClassFile.FieldType.boolean)) 7 191 D B0 E [.ref p0, .ref p1] h (zoI r) h' := by
  unfold f_J2_add at hf
  refine zMet_of hst (by decide +kernel) rfl rfl (Nat.le_of_ble_eq_true rfl) (fun p e R s m below meth c C0 hno => ?_)
  show zW _ _ _ _ _ _ _ _ _ _ _ _ _ _ _ _ [(0, .ref p0), (1, .ref p1)] []
  exact w_J2_add_b0 C0 hf
def f_X5_like_b0 (E : zE) (p0 : Nat) (p1 : Nat) (h : zH) : Option (Unit × zH) :=
  (gR h p1 5 0).bind fun x1 =>
  (gR h p0 5 0).bind fun x3 =>
  (cpA h x1 (0 : Int32) x3 (0 : Int32) (900 : Int32)).bind fun h5 =>
  some ((), h5)
theorem w_X5_like_b0 (C0 : zCx p l e R s m args below meth c D B0 2 "FranchiseLedger$Grid" cX5_like E 1 60 (Option.none : Option Jvm.ClassFile.FieldType) "like") {r : Unit} {h' : zH} {p0 : Nat} {p1 : Nat} {h : zH} (hf : f_X5_like_b0 E p0 p1 h = some (r, h')) : zW p l e R s m args below meth c D B0 2 (zEnd D B0 R below args s (zoV r) h') h 0 [(0, .ref p0), (1, .ref p1)] [] := by
  unfold f_X5_like_b0 at hf
  refine zr_aload_n C0 dX5_like_0 rfl 1 rfl ?_
  obtain ⟨x1, e2, hf⟩ := zbind hf
  refine zr_get C0 fl_X5_9_X5 dX5_like_1 (zgR e2) ?_
  refine zr_iconst C0 (v := 0) dX5_like_4 (by decide) ?_
  refine zr_aload_n C0 dX5_like_5 rfl 0 rfl ?_
  obtain ⟨x3, e4, hf⟩ := zbind hf
  refine zr_get C0 fl_X5_9_X5 dX5_like_6 (zgR e4) ?_
  refine zr_iconst C0 (v := 0) dX5_like_9 (by decide) ?_
  refine zr_sipush C0 (v := 900) dX5_like_10 (by decide) ?_
  obtain ⟨h5, e6, hf⟩ := zbind hf
  refine zr_copy C0 q1081 (by decide) (Nat.le_of_ble_eq_true rfl) dX5_like_13 e6 ?_
  refine zretW hf ?_
  exact zr_vret C0 rfl dX5_like_16 rfl
def f_X5_like (E : zE) (p0 : Nat) (p1 : Nat) (h : zH) : Option (Unit × zH) := f_X5_like_b0 E p0 p1 h
theorem m_X5_like {l : Launch} (hst : l.stackTraces = false) {D : zD} {B0 : Nat} {E : zE} {p0 : Nat} {p1 : Nat} {h h' : zH} {r : Unit} (hf : f_X5_like E p0 p1 h = some (r, h')) : zMet l yX5_like (ws_ yX5_like cX5_like 2 (Option.none : Option Jvm.ClassFile.FieldType)) 1 60 D B0 E [.ref p0, .ref p1] h (zoV r) h' := by
  unfold f_X5_like at hf
  refine zMet_of hst (by decide +kernel) rfl rfl (Nat.le_of_ble_eq_true rfl) (fun p e R s m below meth c C0 hno => ?_)
  show zW _ _ _ _ _ _ _ _ _ _ _ _ _ _ _ _ [(0, .ref p0), (1, .ref p1)] []
  exact w_X5_like_b0 C0 hf
def f_X14_init_b0 (E : zE) (p0 : Nat) (p1 : Int32) (p2 : Int32) (p3 : Int64) (h : zH) : Option (Unit × zH) :=
  (pF h p0 13 0 (.int p1)).bind fun h1 =>
  (pF h1 p0 13 1 (.int p2)).bind fun h3 =>
  (pF h3 p0 13 2 (.long p3)).bind fun h5 =>
  some ((), h5)
theorem w_X14_init_b0 (C0 : zCx p l e R s m args below meth c D B0 5 "FranchiseLedger$Outlet" cX14_init E 1 60 (Option.none : Option Jvm.ClassFile.FieldType) "<init>") {r : Unit} {h' : zH} {p0 : Nat} {p1 : Int32} {p2 : Int32} {p3 : Int64} {h : zH} (hf : f_X14_init_b0 E p0 p1 p2 p3 h = some (r, h')) : zW p l e R s m args below meth c D B0 5 (zEnd D B0 R below args s (zoV r) h') h 0 [(0, .ref p0), (1, .int p1), (2, .int p2), (3, .long p3)] [] := by
  unfold f_X14_init_b0 at hf
  refine zr_aload_n C0 dX14_init_0 rfl 0 rfl ?_
  refine zr_objInit C0 q1060 q182 q183 dX14_init_1 (by decide) (by show _ ≤ _; exact Nat.le_of_ble_eq_true rfl) ?_
  refine zr_aload_n C0 dX14_init_4 rfl 0 rfl ?_
  refine zr_iload_n C0 dX14_init_5 rfl 1 rfl ?_
  obtain ⟨h1, e2, hf⟩ := zbind hf
  refine zr_put C0 pl_X14_14_X14 dX14_init_6 (fun _ => rfl) rfl rfl e2 ?_
  refine zr_aload_n C0 dX14_init_9 rfl 0 rfl ?_
  refine zr_iload_n C0 dX14_init_10 rfl 2 rfl ?_
  obtain ⟨h3, e4, hf⟩ := zbind hf
  refine zr_put C0 pl_X14_18_X14 dX14_init_11 (fun h => by cases h) rfl rfl e4 ?_
  refine zr_aload_n C0 dX14_init_14 rfl 0 rfl ?_
  refine zr_lload_n C0 dX14_init_15 rfl 3 rfl ?_
  obtain ⟨h5, e6, hf⟩ := zbind hf
  refine zr_put C0 pl_X14_21_X14 dX14_init_16 (fun h => by cases h) rfl rfl e6 ?_
  refine zretW hf ?_
  exact zr_vret C0 rfl dX14_init_19 rfl
def f_X14_init (E : zE) (p0 : Nat) (p1 : Int32) (p2 : Int32) (p3 : Int64) (h : zH) : Option (Unit × zH) := f_X14_init_b0 E p0 p1 p2 p3 h
theorem m_X14_init {l : Launch} (hst : l.stackTraces = false) {D : zD} {B0 : Nat} {E : zE} {p0 : Nat} {p1 : Int32} {p2 : Int32} {p3 : Int64} {h h' : zH} {r : Unit} (hf : f_X14_init E p0 p1 p2 p3 h = some (r, h')) : zMet l yX14_init (ws_ yX14_init cX14_init 5 (Option.none : Option Jvm.ClassFile.FieldType)) 1 60 D B0 E [.ref p0, .int p1, .int p2, .long p3] h (zoV r) h' := by
  unfold f_X14_init at hf
  refine zMet_of hst (by decide +kernel) rfl rfl (Nat.le_of_ble_eq_true rfl) (fun p e R s m below meth c C0 hno => ?_)
  show zW _ _ _ _ _ _ _ _ _ _ _ _ _ _ _ _ [(0, .ref p0), (1, .int p1), (2, .int p2), (3, .long p3)] []
  exact w_X14_init_b0 C0 hf
def f_X4_copy_l162 (E : zE) : Nat → Nat → Nat → Int32 → zH → Option (Nat × zH)
  | 0, _, _, _, _ => none
  | n + 1, p0, p1, p2, h =>
    if (8 : Int32) ≤ p2 then (
      (gR h p0 4 4).bind fun x2 =>
      (gR h p1 4 4).bind fun x4 =>
      (cpA h x2 (0 : Int32) x4 (0 : Int32) (3 : Int32)).bind fun h6 =>
      (gI h6 p0 4 5).bind fun x8 =>
      (pF h6 p1 4 5 (.int x8)).bind fun h10 =>
      some (p1, h10)
    ) else (
      (gR h p0 4 3).bind fun x12 =>
      (dR h x12 5 p2).bind fun x14 =>
      (gR h p1 4 3).bind fun x16 =>
      (dR h x16 5 p2).bind fun x18 =>
      (cpA h x14 (0 : Int32) x18 (0 : Int32) (8 : Int32)).bind fun h20 =>
      f_X4_copy_l162 E n p0 p1 (p2 + 1) h20
    )
theorem w_X4_copy_l162 (C0 : zCx p l e R s m args below meth c D B0 3 "FranchiseLedger$Books" cX4_copy E 8 212 (Option.some (Jvm.ClassFile.FieldType.object "FranchiseLedger$Books")) "copy") {r : Nat} {h' : zH} : ∀ (n : Nat) (p0 : Nat) (p1 : Nat) (p2 : Int32) (h : zH), f_X4_copy_l162 E n p0 p1 p2 h = some (r, h') → zW p l e R s m args below meth c D B0 3 (zEnd D B0 R below args s (zoR r) h') h 162 [(0, .ref p0), (1, .ref p1), (2, .int p2)] [] := by
  intro n
  induction n with
  | zero =>
    intro p0 p1 p2 h hf
    unfold f_X4_copy_l162 at hf
    cases hf
  | succ n ih =>
    intro p0 p1 p2 h hf
    unfold f_X4_copy_l162 at hf
    refine zr_iload_n C0 dX4_copy_162 rfl 2 rfl ?_
    refine zr_bipush C0 (v := 8) dX4_copy_163 (by decide) ?_
    refine zr_icmp_ge C0 (tgt := 193) dX4_copy_165 (by decide) (fun c1 => ?_) (fun c1 => ?_)
    · have hf := zif_t c1 hf
      refine zr_aload_n C0 dX4_copy_193 rfl 0 rfl ?_
      obtain ⟨x2, e3, hf⟩ := zbind hf
      refine zr_get C0 fl_X4_39_X4 dX4_copy_194 (zgR e3) ?_
      refine zr_iconst C0 (v := 0) dX4_copy_197 (by decide) ?_
      refine zr_aload_n C0 dX4_copy_198 rfl 1 rfl ?_
      obtain ⟨x4, e5, hf⟩ := zbind hf
      refine zr_get C0 fl_X4_39_X4 dX4_copy_199 (zgR e5) ?_
      refine zr_iconst C0 (v := 0) dX4_copy_202 (by decide) ?_
      refine zr_iconst C0 (v := 3) dX4_copy_203 (by decide) ?_
      obtain ⟨h6, e7, hf⟩ := zbind hf
      refine zr_copy C0 q1082 (by decide) (Nat.le_of_ble_eq_true rfl) dX4_copy_204 e7 ?_
      refine zr_aload_n C0 dX4_copy_207 rfl 1 rfl ?_
      refine zr_aload_n C0 dX4_copy_208 rfl 0 rfl ?_
      obtain ⟨x8, e9, hf⟩ := zbind hf
      refine zr_get C0 fl_X4_58_X4 dX4_copy_209 (zgI e9) ?_
      obtain ⟨h10, e11, hf⟩ := zbind hf
      refine zr_put C0 pl_X4_58_X4 dX4_copy_212 (fun h => by cases h) rfl rfl e11 ?_
      refine zr_aload_n C0 dX4_copy_215 rfl 1 rfl ?_
      refine zretW hf ?_
      exact zr_aret C0 rfl (Or.inl ⟨_, rfl⟩) dX4_copy_216 rfl
    · have hf := zif_f c1 hf
      refine zr_aload_n C0 dX4_copy_168 rfl 0 rfl ?_
      obtain ⟨x12, e13, hf⟩ := zbind hf
      refine zr_get C0 fl_X4_36_X4 dX4_copy_169 (zgR e13) ?_
      refine zr_iload_n C0 dX4_copy_172 rfl 2 rfl ?_
      obtain ⟨x14, e15, hf⟩ := zbind hf
      refine zr_aald C0 rfl dX4_copy_173 e15 ?_
      refine zr_iconst C0 (v := 0) dX4_copy_174 (by decide) ?_
      refine zr_aload_n C0 dX4_copy_175 rfl 1 rfl ?_
      obtain ⟨x16, e17, hf⟩ := zbind hf
      refine zr_get C0 fl_X4_36_X4 dX4_copy_176 (zgR e17) ?_
      refine zr_iload_n C0 dX4_copy_179 rfl 2 rfl ?_
      obtain ⟨x18, e19, hf⟩ := zbind hf
      refine zr_aald C0 rfl dX4_copy_180 e19 ?_
      refine zr_iconst C0 (v := 0) dX4_copy_181 (by decide) ?_
      refine zr_bipush C0 (v := 8) dX4_copy_182 (by decide) ?_
      obtain ⟨h20, e21, hf⟩ := zbind hf
      refine zr_copy C0 q1082 (by decide) (Nat.le_of_ble_eq_true rfl) dX4_copy_184 e21 ?_
      refine zr_iinc (lv' := [(2, .int (p2 + 1)), (0, .ref p0), (1, .ref p1)]) C0 dX4_copy_187 2 rfl rfl (by decide) (by first | rfl | simp [zst1, zst2, zcat_rf]) ?_
      refine zr_goto C0 (tgt := 162) dX4_copy_190 (by decide) ?_
      refine zr_sub [1, 2, 0] rfl ?_
      exact ih _ _ _ _ hf
def f_X4_copy_l65 (E : zE) : Nat → Nat → Nat → Int32 → zH → Option (Nat × zH)
  | 0, _, _, _, _ => none
  | n + 1, p0, p1, p2, h =>
    (gR h p0 4 1).bind fun x1 =>
    (cko h x1 15).bind fun _ =>
    bnd2 (f_J2_size E x1 h) fun x6 h4 =>
    if x6 ≤ p2 then (
      (gR h4 p1 4 2).bind fun x8 =>
      (gR h4 p0 4 2).bind fun x10 =>
      (cko h4 x8 5).bind fun _ =>
      bnd2 (f_X5_like E x8 x10 h4) fun x15 h13 =>
      f_X4_copy_l162 E E.1 p0 p1 (0 : Int32) h13
    ) else (
      (gR h4 p1 4 1).bind fun x16 =>
      bnd2 (nO h4 13 3 [.int 0, .int 0, .long 0]) fun q18 h19 =>
      (gR h19 p0 4 1).bind fun x21 =>
      (cko h19 x21 15).bind fun _ =>
      bnd2 (f_J2_get E x21 p2 h19) fun x26 h24 =>
      (cko h24 x26 13).bind fun _ =>
      (gI h24 x26 13 0).bind fun x28 =>
      (gR h24 p0 4 1).bind fun x30 =>
      (cko h24 x30 15).bind fun _ =>
      bnd2 (f_J2_get E x30 p2 h24) fun x35 h33 =>
      (cko h33 x35 13).bind fun _ =>
      (gI h33 x35 13 1).bind fun x37 =>
      (gR h33 p0 4 1).bind fun x39 =>
      (cko h33 x39 15).bind fun _ =>
      bnd2 (f_J2_get E x39 p2 h33) fun x44 h42 =>
      (cko h42 x44 13).bind fun _ =>
      (gL h42 x44 13 2).bind fun x46 =>
      bnd2 (f_X14_init E q18 x28 x37 x46 h42) fun x50 h48 =>
      (cko h48 x16 15).bind fun _ =>
      bnd2 (f_J2_add E x16 q18 h48) fun x54 h52 =>
      f_X4_copy_l65 E n p0 p1 (p2 + 1) h52
    )
theorem w_X4_copy_l65 (C0 : zCx p l e R s m args below meth c D B0 3 "FranchiseLedger$Books" cX4_copy E 8 212 (Option.some (Jvm.ClassFile.FieldType.object "FranchiseLedger$Books")) "copy") {r : Nat} {h' : zH} : ∀ (n : Nat) (p0 : Nat) (p1 : Nat) (p2 : Int32) (h : zH), f_X4_copy_l65 E n p0 p1 p2 h = some (r, h') → zW p l e R s m args below meth c D B0 3 (zEnd D B0 R below args s (zoR r) h') h 65 [(0, .ref p0), (1, .ref p1), (2, .int p2)] [] := by
  intro n
  induction n with
  | zero =>
    intro p0 p1 p2 h hf
    unfold f_X4_copy_l65 at hf
    cases hf
  | succ n ih =>
    intro p0 p1 p2 h hf
    unfold f_X4_copy_l65 at hf
    refine zr_iload_n C0 dX4_copy_65 rfl 2 rfl ?_
    refine zr_aload_n C0 dX4_copy_66 rfl 0 rfl ?_
    obtain ⟨x1, e2, hf⟩ := zbind hf
    refine zr_get C0 fl_X4_24_X4 dX4_copy_67 (zgR e2) ?_
    obtain ⟨_, e3, hf⟩ := zbind hf
    obtain ⟨x6, h4, e5, hf⟩ := zbind2 hf
    refine zr_callF_r C0 cv_X4_46_J2 rfl (zcko e3) (m_J2_size C0.2.2.2.2.2.2.1 e5) (by decide) (by decide) rfl rfl (Nat.le_of_ble_eq_true rfl) dX4_copy_70 rfl ?_
    refine zr_icmp_ge C0 (tgt := 149) dX4_copy_75 (by decide) (fun c7 => ?_) (fun c7 => ?_)
    · have hf := zif_t c7 hf
      refine zr_aload_n C0 dX4_copy_149 rfl 1 rfl ?_
      obtain ⟨x8, e9, hf⟩ := zbind hf
      refine zr_get C0 fl_X4_30_X4 dX4_copy_150 (zgR e9) ?_
      refine zr_aload_n C0 dX4_copy_153 rfl 0 rfl ?_
      obtain ⟨x10, e11, hf⟩ := zbind hf
      refine zr_get C0 fl_X4_30_X4 dX4_copy_154 (zgR e11) ?_
      obtain ⟨_, e12, hf⟩ := zbind hf
      obtain ⟨x15, h13, e14, hf⟩ := zbind2 hf
      refine zr_callV_r C0 cv_X4_85_X5 rfl (zcko e12) (m_X5_like C0.2.2.2.2.2.2.1 e14) (by decide) (by decide) rfl rfl (Nat.le_of_ble_eq_true rfl) dX4_copy_157 rfl ?_
      refine zr_iconst C0 (v := 0) dX4_copy_160 (by decide) ?_
      refine zr_istore_n (i := 2) (lv' := [(2, .int (0 : Int32)), (0, .ref p0), (1, .ref p1)]) C0 dX4_copy_161 rfl (by decide) (by first | rfl | simp [zst1, zst2, zcat_rf]) ?_
      refine zr_sub [1, 2, 0] rfl ?_
      exact w_X4_copy_l162 C0 _ _ _ _ _ hf
    · have hf := zif_f c7 hf
      refine zr_aload_n C0 dX4_copy_78 rfl 1 rfl ?_
      obtain ⟨x16, e17, hf⟩ := zbind hf
      refine zr_get C0 fl_X4_24_X4 dX4_copy_79 (zgR e17) ?_
      obtain ⟨q18, h19, e20, hf⟩ := zbind2 hf
      refine zr_newc C0 (C := RX14) (T := TX14) (N := 3) rfl in_X14 tyX14_ok q1055 q1056 q170 nw_X14 dX4_copy_82 e20 ?_
      refine zr_dup C0 dX4_copy_85 rfl ?_
      refine zr_aload_n C0 dX4_copy_86 rfl 0 rfl ?_
      obtain ⟨x21, e22, hf⟩ := zbind hf
      refine zr_get C0 fl_X4_24_X4 dX4_copy_87 (zgR e22) ?_
      refine zr_iload_n C0 dX4_copy_90 rfl 2 rfl ?_
      obtain ⟨_, e23, hf⟩ := zbind hf
      obtain ⟨x26, h24, e25, hf⟩ := zbind2 hf
      refine zr_callF_r C0 cv_X4_52_J2 rfl (zcko e23) (m_J2_get C0.2.2.2.2.2.2.1 e25) (by decide) (by decide) rfl rfl (Nat.le_of_ble_eq_true rfl) dX4_copy_91 rfl ?_
      obtain ⟨_, e27, hf⟩ := zbind hf
      refine zr_castS C0 (ci := 13) rfl (zcko e27) q1055 dX4_copy_96 ?_
      obtain ⟨x28, e29, hf⟩ := zbind hf
      refine zr_get C0 fl_X4_72_X14 dX4_copy_99 (zgI e29) ?_
      refine zr_aload_n C0 dX4_copy_102 rfl 0 rfl ?_
      obtain ⟨x30, e31, hf⟩ := zbind hf
      refine zr_get C0 fl_X4_24_X4 dX4_copy_103 (zgR e31) ?_
      refine zr_iload_n C0 dX4_copy_106 rfl 2 rfl ?_
      obtain ⟨_, e32, hf⟩ := zbind hf
      obtain ⟨x35, h33, e34, hf⟩ := zbind2 hf
      refine zr_callF_r C0 cv_X4_52_J2 rfl (zcko e32) (m_J2_get C0.2.2.2.2.2.2.1 e34) (by decide) (by decide) rfl rfl (Nat.le_of_ble_eq_true rfl) dX4_copy_107 rfl ?_
      obtain ⟨_, e36, hf⟩ := zbind hf
      refine zr_castS C0 (ci := 13) rfl (zcko e36) q1055 dX4_copy_112 ?_
      obtain ⟨x37, e38, hf⟩ := zbind hf
      refine zr_get C0 fl_X4_75_X14 dX4_copy_115 (zgI e38) ?_
      refine zr_aload_n C0 dX4_copy_118 rfl 0 rfl ?_
      obtain ⟨x39, e40, hf⟩ := zbind hf
      refine zr_get C0 fl_X4_24_X4 dX4_copy_119 (zgR e40) ?_
      refine zr_iload_n C0 dX4_copy_122 rfl 2 rfl ?_
      obtain ⟨_, e41, hf⟩ := zbind hf
      obtain ⟨x44, h42, e43, hf⟩ := zbind2 hf
      refine zr_callF_r C0 cv_X4_52_J2 rfl (zcko e41) (m_J2_get C0.2.2.2.2.2.2.1 e43) (by decide) (by decide) rfl rfl (Nat.le_of_ble_eq_true rfl) dX4_copy_123 rfl ?_
      obtain ⟨_, e45, hf⟩ := zbind hf
      refine zr_castS C0 (ci := 13) rfl (zcko e45) q1055 dX4_copy_128 ?_
      obtain ⟨x46, e47, hf⟩ := zbind hf
      refine zr_get C0 fl_X4_78_X14 dX4_copy_131 (zgL e47) ?_
      obtain ⟨x50, h48, e49, hf⟩ := zbind2 hf
      refine zr_callI_r C0 cv_X4_82 (m_X14_init C0.2.2.2.2.2.2.1 e49) (by decide) (by decide) rfl rfl (Nat.le_of_ble_eq_true rfl) dX4_copy_134 rfl ?_
      obtain ⟨_, e51, hf⟩ := zbind hf
      obtain ⟨x54, h52, e53, hf⟩ := zbind2 hf
      refine zr_callF_r C0 cv_X4_66_J2 rfl (zcko e51) (m_J2_add C0.2.2.2.2.2.2.1 e53) (by decide) (by decide) rfl rfl (Nat.le_of_ble_eq_true rfl) dX4_copy_137 rfl ?_
      refine zr_pop C0 dX4_copy_142 rfl ?_
      refine zr_iinc (lv' := [(2, .int (p2 + 1)), (0, .ref p0), (1, .ref p1)]) C0 dX4_copy_143 2 rfl rfl (by decide) (by first | rfl | simp [zst1, zst2, zcat_rf]) ?_
      refine zr_goto C0 (tgt := 65) dX4_copy_146 (by decide) ?_
      refine zr_sub [1, 2, 0] rfl ?_
      exact ih _ _ _ _ hf
def f_X4_copy_l14 (E : zE) : Nat → Nat → Nat → Int32 → zH → Option (Nat × zH)
  | 0, _, _, _, _ => none
  | n + 1, p0, p1, p2, h =>
    (gR h p0 4 0).bind fun x1 =>
    (cko h x1 15).bind fun _ =>
    bnd2 (f_J2_size E x1 h) fun x6 h4 =>
    if x6 ≤ p2 then (
      f_X4_copy_l65 E E.1 p0 p1 (0 : Int32) h4
    ) else (
      (gR h4 p1 4 0).bind fun x8 =>
      (gR h4 p0 4 0).bind fun x10 =>
      (cko h4 x10 15).bind fun _ =>
      bnd2 (f_J2_get E x10 p2 h4) fun x15 h13 =>
      (cko h13 x15 10).bind fun _ =>
      (gI h13 p0 4 5).bind fun x17 =>
      (cko h13 x15 10).bind fun _ =>
      bnd2 (f_X11_copy E x15 x17 h13) fun x22 h20 =>
      (cko h20 x8 15).bind fun _ =>
      bnd2 (f_J2_add E x8 x22 h20) fun x26 h24 =>
      f_X4_copy_l14 E n p0 p1 (p2 + 1) h24
    )
theorem w_X4_copy_l14 (C0 : zCx p l e R s m args below meth c D B0 3 "FranchiseLedger$Books" cX4_copy E 8 212 (Option.some (Jvm.ClassFile.FieldType.object "FranchiseLedger$Books")) "copy") {r : Nat} {h' : zH} : ∀ (n : Nat) (p0 : Nat) (p1 : Nat) (p2 : Int32) (h : zH), f_X4_copy_l14 E n p0 p1 p2 h = some (r, h') → zW p l e R s m args below meth c D B0 3 (zEnd D B0 R below args s (zoR r) h') h 14 [(0, .ref p0), (1, .ref p1), (2, .int p2)] [] := by
  intro n
  induction n with
  | zero =>
    intro p0 p1 p2 h hf
    unfold f_X4_copy_l14 at hf
    cases hf
  | succ n ih =>
    intro p0 p1 p2 h hf
    unfold f_X4_copy_l14 at hf
    refine zr_iload_n C0 dX4_copy_14 rfl 2 rfl ?_
    refine zr_aload_n C0 dX4_copy_15 rfl 0 rfl ?_
    obtain ⟨x1, e2, hf⟩ := zbind hf
    refine zr_get C0 fl_X4_20_X4 dX4_copy_16 (zgR e2) ?_
    obtain ⟨_, e3, hf⟩ := zbind hf
    obtain ⟨x6, h4, e5, hf⟩ := zbind2 hf
    refine zr_callF_r C0 cv_X4_46_J2 rfl (zcko e3) (m_J2_size C0.2.2.2.2.2.2.1 e5) (by decide) (by decide) rfl rfl (Nat.le_of_ble_eq_true rfl) dX4_copy_19 rfl ?_
    refine zr_icmp_ge C0 (tgt := 63) dX4_copy_24 (by decide) (fun c7 => ?_) (fun c7 => ?_)
    · have hf := zif_t c7 hf
      refine zr_iconst C0 (v := 0) dX4_copy_63 (by decide) ?_
      refine zr_istore_n (i := 2) (lv' := [(2, .int (0 : Int32)), (0, .ref p0), (1, .ref p1)]) C0 dX4_copy_64 rfl (by decide) (by first | rfl | simp [zst1, zst2, zcat_rf]) ?_
      refine zr_sub [1, 2, 0] rfl ?_
      exact w_X4_copy_l65 C0 _ _ _ _ _ hf
    · have hf := zif_f c7 hf
      refine zr_aload_n C0 dX4_copy_27 rfl 1 rfl ?_
      obtain ⟨x8, e9, hf⟩ := zbind hf
      refine zr_get C0 fl_X4_20_X4 dX4_copy_28 (zgR e9) ?_
      refine zr_aload_n C0 dX4_copy_31 rfl 0 rfl ?_
      obtain ⟨x10, e11, hf⟩ := zbind hf
      refine zr_get C0 fl_X4_20_X4 dX4_copy_32 (zgR e11) ?_
      refine zr_iload_n C0 dX4_copy_35 rfl 2 rfl ?_
      obtain ⟨_, e12, hf⟩ := zbind hf
      obtain ⟨x15, h13, e14, hf⟩ := zbind2 hf
      refine zr_callF_r C0 cv_X4_52_J2 rfl (zcko e12) (m_J2_get C0.2.2.2.2.2.2.1 e14) (by decide) (by decide) rfl rfl (Nat.le_of_ble_eq_true rfl) dX4_copy_36 rfl ?_
      obtain ⟨_, e16, hf⟩ := zbind hf
      refine zr_castS C0 (ci := 10) rfl (zcko e16) q843 dX4_copy_41 ?_
      refine zr_aload_n C0 dX4_copy_44 rfl 0 rfl ?_
      obtain ⟨x17, e18, hf⟩ := zbind hf
      refine zr_get C0 fl_X4_58_X4 dX4_copy_45 (zgI e18) ?_
      obtain ⟨_, e19, hf⟩ := zbind hf
      obtain ⟨x22, h20, e21, hf⟩ := zbind2 hf
      refine zr_callV_r C0 cv_X4_62_X11 rfl (zcko e19) (m_X11_copy C0.2.2.2.2.2.2.1 e21) (by decide) (by decide) rfl rfl (Nat.le_of_ble_eq_true rfl) dX4_copy_48 rfl ?_
      obtain ⟨_, e23, hf⟩ := zbind hf
      obtain ⟨x26, h24, e25, hf⟩ := zbind2 hf
      refine zr_callF_r C0 cv_X4_66_J2 rfl (zcko e23) (m_J2_add C0.2.2.2.2.2.2.1 e25) (by decide) (by decide) rfl rfl (Nat.le_of_ble_eq_true rfl) dX4_copy_51 rfl ?_
      refine zr_pop C0 dX4_copy_56 rfl ?_
      refine zr_iinc (lv' := [(2, .int (p2 + 1)), (0, .ref p0), (1, .ref p1)]) C0 dX4_copy_57 2 rfl rfl (by decide) (by first | rfl | simp [zst1, zst2, zcat_rf]) ?_
      refine zr_goto C0 (tgt := 14) dX4_copy_60 (by decide) ?_
      refine zr_sub [1, 2, 0] rfl ?_
      exact ih _ _ _ _ hf
def f_X4_copy_b0 (E : zE) (p0 : Nat) (h : zH) : Option (Nat × zH) :=
  bnd2 (nO h 4 7 [.null, .null, .null, .null, .null, .int 0, .null]) fun q1 h2 =>
  (gR h2 p0 4 6).bind fun x4 =>
  bnd2 (f_X4_init E q1 x4 h2) fun x8 h6 =>
  f_X4_copy_l14 E E.1 p0 q1 (0 : Int32) h6
theorem w_X4_copy_b0 (C0 : zCx p l e R s m args below meth c D B0 3 "FranchiseLedger$Books" cX4_copy E 8 212 (Option.some (Jvm.ClassFile.FieldType.object "FranchiseLedger$Books")) "copy") {r : Nat} {h' : zH} {p0 : Nat} {h : zH} (hf : f_X4_copy_b0 E p0 h = some (r, h')) : zW p l e R s m args below meth c D B0 3 (zEnd D B0 R below args s (zoR r) h') h 0 [(0, .ref p0)] [] := by
  unfold f_X4_copy_b0 at hf
  obtain ⟨q1, h2, e3, hf⟩ := zbind2 hf
  refine zr_newc C0 (C := RX4) (T := TX4) (N := 7) rfl in_X4 tyX4_ok q855 q600 q152 nw_X4 dX4_copy_0 e3 ?_
  refine zr_dup C0 dX4_copy_3 rfl ?_
  refine zr_aload_n C0 dX4_copy_4 rfl 0 rfl ?_
  obtain ⟨x4, e5, hf⟩ := zbind hf
  refine zr_get C0 fl_X4_3_X4 dX4_copy_5 (zgR e5) ?_
  obtain ⟨x8, h6, e7, hf⟩ := zbind2 hf
  refine zr_callI_r C0 cv_X4_43 (m_X4_init C0.2.2.2.2.2.2.1 e7) (by decide) (by decide) rfl rfl (Nat.le_of_ble_eq_true rfl) dX4_copy_8 rfl ?_
  refine zr_astore_n (i := 1) (lv' := [(1, .ref q1), (0, .ref p0)]) C0 dX4_copy_11 rfl (by decide) (by first | rfl | simp [zst1, zst2, zcat_rf]) ?_
  refine zr_iconst C0 (v := 0) dX4_copy_12 (by decide) ?_
  refine zr_istore_n (i := 2) (lv' := [(2, .int (0 : Int32)), (1, .ref q1), (0, .ref p0)]) C0 dX4_copy_13 rfl (by decide) (by first | rfl | simp [zst1, zst2, zcat_rf]) ?_
  refine zr_sub [2, 1, 0] rfl ?_
  exact w_X4_copy_l14 C0 _ _ _ _ _ hf
def f_X4_copy (E : zE) (p0 : Nat) (h : zH) : Option (Nat × zH) := f_X4_copy_b0 E p0 h
theorem m_X4_copy {l : Launch} (hst : l.stackTraces = false) {D : zD} {B0 : Nat} {E : zE} {p0 : Nat} {h h' : zH} {r : Nat} (hf : f_X4_copy E p0 h = some (r, h')) : zMet l yX4_copy (ws_ yX4_copy cX4_copy 3 (Option.some (Jvm.ClassFile.FieldType.object "FranchiseLedger$Books"))) 8 212 D B0 E [.ref p0] h (zoR r) h' := by
  unfold f_X4_copy at hf
  refine zMet_of hst (by decide +kernel) rfl rfl (Nat.le_of_ble_eq_true rfl) (fun p e R s m below meth c C0 hno => ?_)
  show zW _ _ _ _ _ _ _ _ _ _ _ _ _ _ _ _ [(0, .ref p0)] []
  exact w_X4_copy_b0 C0 hf
def f_X1_saveSnapshot_b0 (E : zE) (p0 : Nat) (p1 : Int32) (h : zH) : Option (Int32 × zH) :=
  bnd2 (f_X1_inRange E (p1.toInt64) (0 : Int64) (1 : Int64) h) fun x3 h1 =>
  if x3 = 0 then (
    some ((0 : Int32), h1)
  ) else (
    (gR h1 p0 0 2).bind fun x5 =>
    (gR h1 p0 0 1).bind fun x7 =>
    (cko h1 x7 4).bind fun _ =>
    bnd2 (f_X4_copy E x7 h1) fun x12 h10 =>
    (sB h10 x5 p1 x12).bind fun h13 =>
    some ((1 : Int32), h13)
  )
theorem w_X1_saveSnapshot_b0 (C0 : zCx p l e R s m args below meth c D B0 2 "FranchiseLedger" cX1_saveSnapshot E 9 234 (Option.some Jvm.ClassFile.FieldType.boolean) "saveSnapshot") {r : Int32} {h' : zH} {p0 : Nat} {p1 : Int32} {h : zH} (hf : f_X1_saveSnapshot_b0 E p0 p1 h = some (r, h')) : zW p l e R s m args below meth c D B0 2 (zEnd D B0 R below args s (zoI r) h') h 0 [(0, .ref p0), (1, .int p1)] [] := by
  unfold f_X1_saveSnapshot_b0 at hf
  refine zr_iload_n C0 dX1_saveSnapshot_0 rfl 1 rfl ?_
  refine zr_i2l C0 dX1_saveSnapshot_1 ?_
  refine zr_lconst C0 (v := 0) dX1_saveSnapshot_2 (by decide) ?_
  refine zr_lconst C0 (v := 1) dX1_saveSnapshot_3 (by decide) ?_
  obtain ⟨x3, h1, e2, hf⟩ := zbind2 hf
  refine zr_callS_r C0 cv_X1_84 (m_X1_inRange C0.2.2.2.2.2.2.1 e2) (by decide) (by decide) rfl rfl (Nat.le_of_ble_eq_true rfl) dX1_saveSnapshot_4 rfl ?_
  refine zr_if_ne C0 (tgt := 12) dX1_saveSnapshot_7 (by decide) (fun c4 => ?_) (fun c4 => ?_)
  · have hf := zif_f c4 hf
    refine zr_aload_n C0 dX1_saveSnapshot_12 rfl 0 rfl ?_
    obtain ⟨x5, e6, hf⟩ := zbind hf
    refine zr_get C0 fl_X1_43_X1 dX1_saveSnapshot_13 (zgR e6) ?_
    refine zr_iload_n C0 dX1_saveSnapshot_16 rfl 1 rfl ?_
    refine zr_aload_n C0 dX1_saveSnapshot_17 rfl 0 rfl ?_
    obtain ⟨x7, e8, hf⟩ := zbind hf
    refine zr_get C0 fl_X1_39_X1 dX1_saveSnapshot_18 (zgR e8) ?_
    obtain ⟨_, e9, hf⟩ := zbind hf
    obtain ⟨x12, h10, e11, hf⟩ := zbind2 hf
    refine zr_callV_r C0 cv_X1_438_X4 rfl (zcko e9) (m_X4_copy C0.2.2.2.2.2.2.1 e11) (by decide) (by decide) rfl rfl (Nat.le_of_ble_eq_true rfl) dX1_saveSnapshot_21 rfl ?_
    obtain ⟨h13, e14, hf⟩ := zbind hf
    refine zr_aastB C0 dX1_saveSnapshot_24 e14 ?_
    refine zr_iconst C0 (v := 1) dX1_saveSnapshot_25 (by decide) ?_
    refine zretW hf ?_
    exact zr_iret C0 (ty := .boolean) rfl (by decide) dX1_saveSnapshot_26 rfl
  · have hf := zif_t c4 hf
    refine zr_iconst C0 (v := 0) dX1_saveSnapshot_10 (by decide) ?_
    refine zretW hf ?_
    exact zr_iret C0 (ty := .boolean) rfl (by decide) dX1_saveSnapshot_11 rfl
def f_X1_saveSnapshot (E : zE) (p0 : Nat) (p1 : Int32) (h : zH) : Option (Int32 × zH) := f_X1_saveSnapshot_b0 E p0 p1 h
theorem m_X1_saveSnapshot {l : Launch} (hst : l.stackTraces = false) {D : zD} {B0 : Nat} {E : zE} {p0 : Nat} {p1 : Int32} {h h' : zH} {r : Int32} (hf : f_X1_saveSnapshot E p0 p1 h = some (r, h')) : zMet l yX1_saveSnapshot (ws_ yX1_saveSnapshot cX1_saveSnapshot 2 (Option.some Jvm.ClassFile.FieldType.boolean)) 9 234 D B0 E [.ref p0, .int p1] h (zoI r) h' := by
  unfold f_X1_saveSnapshot at hf
  refine zMet_of hst (by decide +kernel) rfl rfl (Nat.le_of_ble_eq_true rfl) (fun p e R s m below meth c C0 hno => ?_)
  show zW _ _ _ _ _ _ _ _ _ _ _ _ _ _ _ _ [(0, .ref p0), (1, .int p1)] []
  exact w_X1_saveSnapshot_b0 C0 hf
def f_X1_restoreSnapshot_b19 (E : zE) (h : zH) : Option (Int32 × zH) :=
  some ((0 : Int32), h)
theorem w_X1_restoreSnapshot_b19 (C0 : zCx p l e R s m args below meth c D B0 2 "FranchiseLedger" cX1_restoreSnapshot E 9 234 (Option.some Jvm.ClassFile.FieldType.boolean) "restoreSnapshot") {r : Int32} {h' : zH} {h : zH} (hf : f_X1_restoreSnapshot_b19 E  h = some (r, h')) : zW p l e R s m args below meth c D B0 2 (zEnd D B0 R below args s (zoI r) h') h 19 [] [] := by
  unfold f_X1_restoreSnapshot_b19 at hf
  refine zr_iconst C0 (v := 0) dX1_restoreSnapshot_19 (by decide) ?_
  refine zretW hf ?_
  exact zr_iret C0 (ty := .boolean) rfl (by decide) dX1_restoreSnapshot_20 rfl
def f_X1_restoreSnapshot_b0 (E : zE) (p0 : Nat) (p1 : Int32) (h : zH) : Option (Int32 × zH) :=
  bnd2 (f_X1_inRange E (p1.toInt64) (0 : Int64) (1 : Int64) h) fun x3 h1 =>
  if x3 = 0 then (
    f_X1_restoreSnapshot_b19 E  h1
  ) else (
    (gR h1 p0 0 2).bind fun x5 =>
    (dQ h1 x5 6 p1).bind fun x7 =>
    zopt x7 (
      f_X1_restoreSnapshot_b19 E  h1
    ) fun x9 => (
      (gR h1 p0 0 2).bind fun x11 =>
      (dR h1 x11 6 p1).bind fun x13 =>
      (cko h1 x13 4).bind fun _ =>
      bnd2 (f_X4_copy E x13 h1) fun x18 h16 =>
      (pF h16 p0 0 1 (.ref x18)).bind fun h19 =>
      some ((1 : Int32), h19)
    )
  )
theorem w_X1_restoreSnapshot_b0 (C0 : zCx p l e R s m args below meth c D B0 2 "FranchiseLedger" cX1_restoreSnapshot E 9 234 (Option.some Jvm.ClassFile.FieldType.boolean) "restoreSnapshot") {r : Int32} {h' : zH} {p0 : Nat} {p1 : Int32} {h : zH} (hf : f_X1_restoreSnapshot_b0 E p0 p1 h = some (r, h')) : zW p l e R s m args below meth c D B0 2 (zEnd D B0 R below args s (zoI r) h') h 0 [(0, .ref p0), (1, .int p1)] [] := by
  unfold f_X1_restoreSnapshot_b0 at hf
  refine zr_iload_n C0 dX1_restoreSnapshot_0 rfl 1 rfl ?_
  refine zr_i2l C0 dX1_restoreSnapshot_1 ?_
  refine zr_lconst C0 (v := 0) dX1_restoreSnapshot_2 (by decide) ?_
  refine zr_lconst C0 (v := 1) dX1_restoreSnapshot_3 (by decide) ?_
  obtain ⟨x3, h1, e2, hf⟩ := zbind2 hf
  refine zr_callS_r C0 cv_X1_84 (m_X1_inRange C0.2.2.2.2.2.2.1 e2) (by decide) (by decide) rfl rfl (Nat.le_of_ble_eq_true rfl) dX1_restoreSnapshot_4 rfl ?_
  refine zr_if_eq C0 (tgt := 19) dX1_restoreSnapshot_7 (by decide) (fun c4 => ?_) (fun c4 => ?_)
  · have hf := zif_t c4 hf
    refine zr_sub [] rfl ?_
    exact w_X1_restoreSnapshot_b19 C0 hf
  · have hf := zif_f c4 hf
    refine zr_aload_n C0 dX1_restoreSnapshot_10 rfl 0 rfl ?_
    obtain ⟨x5, e6, hf⟩ := zbind hf
    refine zr_get C0 fl_X1_43_X1 dX1_restoreSnapshot_11 (zgR e6) ?_
    refine zr_iload_n C0 dX1_restoreSnapshot_14 rfl 1 rfl ?_
    obtain ⟨x7, e8, hf⟩ := zbind hf
    refine zr_aaldQ C0 rfl dX1_restoreSnapshot_15 e8 ?_
    refine zr_ifnonnull C0 (r := x7) (tgt := 21) dX1_restoreSnapshot_16 (by decide) (fun x9 e10 => ?_) (fun e10 => ?_)
    · subst e10
      have hf := zopt_s hf
      refine zr_aload_n C0 dX1_restoreSnapshot_21 rfl 0 rfl ?_
      refine zr_aload_n C0 dX1_restoreSnapshot_22 rfl 0 rfl ?_
      obtain ⟨x11, e12, hf⟩ := zbind hf
      refine zr_get C0 fl_X1_43_X1 dX1_restoreSnapshot_23 (zgR e12) ?_
      refine zr_iload_n C0 dX1_restoreSnapshot_26 rfl 1 rfl ?_
      obtain ⟨x13, e14, hf⟩ := zbind hf
      refine zr_aald C0 rfl dX1_restoreSnapshot_27 e14 ?_
      obtain ⟨_, e15, hf⟩ := zbind hf
      obtain ⟨x18, h16, e17, hf⟩ := zbind2 hf
      refine zr_callV_r C0 cv_X1_438_X4 rfl (zcko e15) (m_X4_copy C0.2.2.2.2.2.2.1 e17) (by decide) (by decide) rfl rfl (Nat.le_of_ble_eq_true rfl) dX1_restoreSnapshot_28 rfl ?_
      obtain ⟨h19, e20, hf⟩ := zbind hf
      refine zr_put C0 pl_X1_39_X1 dX1_restoreSnapshot_31 (fun h => by cases h) rfl rfl e20 ?_
      refine zr_iconst C0 (v := 1) dX1_restoreSnapshot_34 (by decide) ?_
      refine zretW hf ?_
      exact zr_iret C0 (ty := .boolean) rfl (by decide) dX1_restoreSnapshot_35 rfl
    · subst e10
      have hf := zopt_n hf
      refine zr_sub [] rfl ?_
      exact w_X1_restoreSnapshot_b19 C0 hf
def f_X1_restoreSnapshot (E : zE) (p0 : Nat) (p1 : Int32) (h : zH) : Option (Int32 × zH) := f_X1_restoreSnapshot_b0 E p0 p1 h
theorem m_X1_restoreSnapshot {l : Launch} (hst : l.stackTraces = false) {D : zD} {B0 : Nat} {E : zE} {p0 : Nat} {p1 : Int32} {h h' : zH} {r : Int32} (hf : f_X1_restoreSnapshot E p0 p1 h = some (r, h')) : zMet l yX1_restoreSnapshot (ws_ yX1_restoreSnapshot cX1_restoreSnapshot 2 (Option.some Jvm.ClassFile.FieldType.boolean)) 9 234 D B0 E [.ref p0, .int p1] h (zoI r) h' := by
  unfold f_X1_restoreSnapshot at hf
  refine zMet_of hst (by decide +kernel) rfl rfl (Nat.le_of_ble_eq_true rfl) (fun p e R s m below meth c C0 hno => ?_)
  show zW _ _ _ _ _ _ _ _ _ _ _ _ _ _ _ _ [(0, .ref p0), (1, .int p1)] []
  exact w_X1_restoreSnapshot_b0 C0 hf
def f_J7_length_b0 (E : zE) (p0 : Nat) (h : zH) : Option (Int32 × zH) :=
  (gI h p0 18 3).bind fun x1 =>
  some (x1, h)
theorem w_J7_length_b0 (C0 : zCx p l e R s m args below meth c D B0 1 "java/lang/AbstractStringBuilder" cJ7_length E 1 60 (Option.some Jvm.ClassFile.FieldType.int) "length") {r : Int32} {h' : zH} {p0 : Nat} {h : zH} (hf : f_J7_length_b0 E p0 h = some (r, h')) : zW p l e R s m args below meth c D B0 1 (zEnd D B0 R below args s (zoI r) h') h 0 [(0, .ref p0)] [] := by
  unfold f_J7_length_b0 at hf
  refine zr_aload_n C0 dJ7_length_0 rfl 0 rfl ?_
  obtain ⟨x1, e2, hf⟩ := zbind hf
  refine zr_get C0 fl_J7_79_J8 dJ7_length_1 (zgI e2) ?_
  refine zretW hf ?_
  exact zr_iret C0 (ty := .int) rfl rfl dJ7_length_4 rfl
def f_J7_length (E : zE) (p0 : Nat) (h : zH) : Option (Int32 × zH) := f_J7_length_b0 E p0 h
theorem m_J7_length {l : Launch} (hst : l.stackTraces = false) {D : zD} {B0 : Nat} {E : zE} {p0 : Nat} {h h' : zH} {r : Int32} (hf : f_J7_length E p0 h = some (r, h')) : zMet l yJ7_length (ws_ yJ7_length cJ7_length 1 (Option.some Jvm.ClassFile.FieldType.int)) 1 60 D B0 E [.ref p0] h (zoI r) h' := by
  unfold f_J7_length at hf
  refine zMet_of hst (by decide +kernel) rfl rfl (Nat.le_of_ble_eq_true rfl) (fun p e R s m below meth c C0 hno => ?_)
  show zW _ _ _ _ _ _ _ _ _ _ _ _ _ _ _ _ [(0, .ref p0)] []
  exact w_J7_length_b0 C0 hf
def f_J8_length_b0 (E : zE) (p0 : Nat) (h : zH) : Option (Int32 × zH) :=
  (cko h p0 18).bind fun _ =>
  bnd2 (f_J7_length E p0 h) fun x4 h2 =>
  some (x4, h2)
theorem w_J8_length_b0 (C0 : zCx p l e R s m args below meth c D B0 1 "java/lang/StringBuilder" cJ8_length E 2 80 (Option.some Jvm.ClassFile.FieldType.int) "length") {r : Int32} {h' : zH} {p0 : Nat} {h : zH} (hf : f_J8_length_b0 E p0 h = some (r, h')) : zW p l e R s m args below meth c D B0 1 (zEnd D B0 R below args s (zoI r) h') h 0 [(0, .ref p0)] [] := by
  unfold f_J8_length_b0 at hf
  refine zr_aload_n C0 dJ8_length_0 rfl 0 rfl ?_
  obtain ⟨_, e1, hf⟩ := zbind hf
  obtain ⟨x4, h2, e3, hf⟩ := zbind2 hf
  refine zr_callSU_r C0 cv_J8_343 rfl (zcko e1) (m_J7_length C0.2.2.2.2.2.2.1 e3) (by decide) (by decide) rfl rfl (Nat.le_of_ble_eq_true rfl) dJ8_length_1 rfl ?_
  refine zretW hf ?_
  exact zr_iret C0 (ty := .int) rfl rfl dJ8_length_4 rfl
def f_J8_length (E : zE) (p0 : Nat) (h : zH) : Option (Int32 × zH) := f_J8_length_b0 E p0 h
theorem m_J8_length {l : Launch} (hst : l.stackTraces = false) {D : zD} {B0 : Nat} {E : zE} {p0 : Nat} {h h' : zH} {r : Int32} (hf : f_J8_length E p0 h = some (r, h')) : zMet l yJ8_length (ws_ yJ8_length cJ8_length 1 (Option.some Jvm.ClassFile.FieldType.int)) 2 80 D B0 E [.ref p0] h (zoI r) h' := by
  unfold f_J8_length at hf
  refine zMet_of hst (by decide +kernel) rfl rfl (Nat.le_of_ble_eq_true rfl) (fun p e R s m below meth c C0 hno => ?_)
  show zW _ _ _ _ _ _ _ _ _ _ _ _ _ _ _ _ [(0, .ref p0)] []
  exact w_J8_length_b0 C0 hf
def f_J9_checkIndex_b0 (E : zE) (p0 : Int32) (p1 : Int32) (h : zH) : Option (Unit × zH) :=
  bnd2 (f_J14_checkIndex E p0 p1 (E.2.2 10) h) fun x3 h1 =>
  some ((), h1)
theorem w_J9_checkIndex_b0 (C0 : zCx p l e R s m args below meth c D B0 2 "java/lang/String" cJ9_checkIndex E 2 82 (Option.none : Option Jvm.ClassFile.FieldType) "checkIndex") {r : Unit} {h' : zH} {p0 : Int32} {p1 : Int32} {h : zH} (hf : f_J9_checkIndex_b0 E p0 p1 h = some (r, h')) : zW p l e R s m args below meth c D B0 2 (zEnd D B0 R below args s (zoV r) h') h 0 [(0, .int p0), (1, .int p1)] [] := by
  unfold f_J9_checkIndex_b0 at hf
  refine zr_iload_n C0 dJ9_checkIndex_0 rfl 0 rfl ?_
  refine zr_iload_n C0 dJ9_checkIndex_1 rfl 1 rfl ?_
  refine zr_gets C0 (C0.2.2.2.2.2.2.2.2.2.1.2.2.2.2.2.2.2.2.2.2.2.2.2.1 0 _ rfl) q347 dJ9_checkIndex_2 ?_
  obtain ⟨x3, h1, e2, hf⟩ := zbind2 hf
  refine zr_callS_r C0 cv_J9_1059 (m_J14_checkIndex C0.2.2.2.2.2.2.1 e2) (by decide) (by decide) rfl rfl (Nat.le_of_ble_eq_true rfl) dJ9_checkIndex_5 rfl ?_
  refine zr_pop C0 dJ9_checkIndex_8 rfl ?_
  refine zretW hf ?_
  exact zr_vret C0 rfl dJ9_checkIndex_9 rfl
def f_J9_checkIndex (E : zE) (p0 : Int32) (p1 : Int32) (h : zH) : Option (Unit × zH) := f_J9_checkIndex_b0 E p0 p1 h
theorem m_J9_checkIndex {l : Launch} (hst : l.stackTraces = false) {D : zD} {B0 : Nat} {E : zE} {p0 : Int32} {p1 : Int32} {h h' : zH} {r : Unit} (hf : f_J9_checkIndex E p0 p1 h = some (r, h')) : zMet l yJ9_checkIndex (ws_ yJ9_checkIndex cJ9_checkIndex 2 (Option.none : Option Jvm.ClassFile.FieldType)) 2 82 D B0 E [.int p0, .int p1] h (zoV r) h' := by
  unfold f_J9_checkIndex at hf
  refine zMet_of hst (by decide +kernel) rfl rfl (Nat.le_of_ble_eq_true rfl) (fun p e R s m below meth c C0 hno => ?_)
  show zW _ _ _ _ _ _ _ _ _ _ _ _ _ _ _ _ [(0, .int p0), (1, .int p1)] []
  exact w_J9_checkIndex_b0 C0 hf
def f_J10_getChar_b0 (E : zE) (p0 : Nat) (p1 : Int32) (h : zH) : Option (Int32 × zH) :=
  none
theorem w_J10_getChar_b0 (C0 : zCx p l e R s m args below meth c D B0 2 "java/lang/StringUTF16" cJ10_getChar E 1 60 (Option.some Jvm.ClassFile.FieldType.char) "getChar") {r : Int32} {h' : zH} {p0 : Nat} {p1 : Int32} {h : zH} (hf : f_J10_getChar_b0 E p0 p1 h = some (r, h')) : zW p l e R s m args below meth c D B0 2 (zEnd D B0 R below args s (zoI r) h') h 0 [(0, .ref p0), (1, .int p1)] [] := by
  unfold f_J10_getChar_b0 at hf
  cases hf
def f_J10_getChar (E : zE) (p0 : Nat) (p1 : Int32) (h : zH) : Option (Int32 × zH) := f_J10_getChar_b0 E p0 p1 h
theorem m_J10_getChar {l : Launch} (hst : l.stackTraces = false) {D : zD} {B0 : Nat} {E : zE} {p0 : Nat} {p1 : Int32} {h h' : zH} {r : Int32} (hf : f_J10_getChar E p0 p1 h = some (r, h')) : zMet l yJ10_getChar (ws_ yJ10_getChar cJ10_getChar 2 (Option.some Jvm.ClassFile.FieldType.char)) 1 60 D B0 E [.ref p0, .int p1] h (zoI r) h' := by
  unfold f_J10_getChar at hf
  refine zMet_of hst (by decide +kernel) rfl rfl (Nat.le_of_ble_eq_true rfl) (fun p e R s m below meth c C0 hno => ?_)
  show zW _ _ _ _ _ _ _ _ _ _ _ _ _ _ _ _ [(0, .ref p0), (1, .int p1)] []
  exact w_J10_getChar_b0 C0 hf
def f_J7_charAt_b0 (E : zE) (p0 : Nat) (p1 : Int32) (h : zH) : Option (Int32 × zH) :=
  (gI h p0 18 1).bind fun x1 =>
  (gR h p0 18 0).bind fun x3 =>
  (gI h p0 18 3).bind fun x5 =>
  (lenA h x3).bind fun x7 =>
  bnd2 (f_J12_min E x5 (x7 >>> (x1 &&& 31)) h) fun x11 h9 =>
  bnd2 (f_J9_checkIndex E p1 x11 h9) fun x14 h12 =>
  if x1 = 0 then (
    (dI h12 x3 2 p1).bind fun x20 =>
    (zgd .char (((x20 &&& (255 : Int32)).toUInt32 % 65536).toInt32)).bind fun _ =>
    some ((((x20 &&& (255 : Int32)).toUInt32 % 65536).toInt32), h12)
  ) else (
    bnd2 (f_J10_getChar E x3 p1 h12) fun x18 h16 =>
    (zgd .char x18).bind fun _ =>
    some (x18, h16)
  )
theorem w_J7_charAt_b0 (C0 : zCx p l e R s m args below meth c D B0 5 "java/lang/AbstractStringBuilder" cJ7_charAt E 3 103 (Option.some Jvm.ClassFile.FieldType.char) "charAt") {r : Int32} {h' : zH} {p0 : Nat} {p1 : Int32} {h : zH} (hf : f_J7_charAt_b0 E p0 p1 h = some (r, h')) : zW p l e R s m args below meth c D B0 5 (zEnd D B0 R below args s (zoI r) h') h 0 [(0, .ref p0), (1, .int p1)] [] := by
  unfold f_J7_charAt_b0 at hf
  refine zr_aload_n C0 dJ7_charAt_0 rfl 0 rfl ?_
  obtain ⟨x1, e2, hf⟩ := zbind hf
  refine zr_get C0 fl_J7_22_J8 dJ7_charAt_1 (zgI e2) ?_
  refine zr_istore_n (i := 2) (lv' := [(2, .int x1), (0, .ref p0), (1, .int p1)]) C0 dJ7_charAt_4 rfl (by decide) (by first | rfl | simp [zst1, zst2, zcat_rf]) ?_
  refine zr_aload_n C0 dJ7_charAt_5 rfl 1 rfl ?_
  obtain ⟨x3, e4, hf⟩ := zbind hf
  refine zr_get C0 fl_J7_15_J8 dJ7_charAt_6 (zgR e4) ?_
  refine zr_astore_n (i := 3) (lv' := [(3, .ref x3), (2, .int x1), (0, .ref p0), (1, .int p1)]) C0 dJ7_charAt_9 rfl (by decide) (by first | rfl | simp [zst1, zst2, zcat_rf]) ?_
  refine zr_aload_n C0 dJ7_charAt_10 rfl 2 rfl ?_
  obtain ⟨x5, e6, hf⟩ := zbind hf
  refine zr_get C0 fl_J7_79_J8 dJ7_charAt_11 (zgI e6) ?_
  refine zr_aload_n C0 dJ7_charAt_14 rfl 0 rfl ?_
  obtain ⟨x7, e8, hf⟩ := zbind hf
  refine zr_alen C0 dJ7_charAt_15 e8 ?_
  refine zr_iload_n C0 dJ7_charAt_16 rfl 1 rfl ?_
  refine zr_ishr C0 dJ7_charAt_17 ?_
  obtain ⟨x11, h9, e10, hf⟩ := zbind2 hf
  refine zr_callS_r C0 cv_J7_138 (m_J12_min C0.2.2.2.2.2.2.1 e10) (by decide) (by decide) rfl rfl (Nat.le_of_ble_eq_true rfl) dJ7_charAt_18 rfl ?_
  refine zr_istore (i := 4) (lv' := [(4, .int x11), (3, .ref x3), (2, .int x1), (0, .ref p0), (1, .int p1)]) C0 dJ7_charAt_21 (by decide) (by first | rfl | simp [zst1, zst2, zcat_rf]) ?_
  refine zr_iload_n C0 dJ7_charAt_23 rfl 4 rfl ?_
  refine zr_iload C0 dJ7_charAt_24 0 rfl ?_
  obtain ⟨x14, h12, e13, hf⟩ := zbind2 hf
  refine zr_callS_r C0 cv_J7_144 (m_J9_checkIndex C0.2.2.2.2.2.2.1 e13) (by decide) (by decide) rfl rfl (Nat.le_of_ble_eq_true rfl) dJ7_charAt_26 rfl ?_
  refine zr_iload_n C0 dJ7_charAt_29 rfl 2 rfl ?_
  refine zr_if_ne C0 (tgt := 42) dJ7_charAt_30 (by decide) (fun c15 => ?_) (fun c15 => ?_)
  · have hf := zif_f c15 hf
    refine zr_aload_n C0 dJ7_charAt_42 rfl 1 rfl ?_
    refine zr_iload_n C0 dJ7_charAt_43 rfl 4 rfl ?_
    obtain ⟨x18, h16, e17, hf⟩ := zbind2 hf
    refine zr_callS_r C0 cv_J7_148 (m_J10_getChar C0.2.2.2.2.2.2.1 e17) (by decide) (by decide) rfl rfl (Nat.le_of_ble_eq_true rfl) dJ7_charAt_44 rfl ?_
    obtain ⟨_, e19, hf⟩ := zbind hf
    refine zretW hf ?_
    exact zr_iret C0 (ty := .char) rfl (zgd_n e19) dJ7_charAt_47 rfl
  · have hf := zif_t c15 hf
    refine zr_aload_n C0 dJ7_charAt_33 rfl 1 rfl ?_
    refine zr_iload_n C0 dJ7_charAt_34 rfl 4 rfl ?_
    obtain ⟨x20, e21, hf⟩ := zbind hf
    refine zr_bald C0 dJ7_charAt_35 e21 ?_
    refine zr_sipush C0 (v := 255) dJ7_charAt_36 (by decide) ?_
    refine zr_iand C0 dJ7_charAt_39 ?_
    refine zr_i2c C0 dJ7_charAt_40 ?_
    obtain ⟨_, e22, hf⟩ := zbind hf
    refine zretW hf ?_
    exact zr_iret C0 (ty := .char) rfl (zgd_n e22) dJ7_charAt_41 rfl
def f_J7_charAt (E : zE) (p0 : Nat) (p1 : Int32) (h : zH) : Option (Int32 × zH) := f_J7_charAt_b0 E p0 p1 h
theorem m_J7_charAt {l : Launch} (hst : l.stackTraces = false) {D : zD} {B0 : Nat} {E : zE} {p0 : Nat} {p1 : Int32} {h h' : zH} {r : Int32} (hf : f_J7_charAt E p0 p1 h = some (r, h')) : zMet l yJ7_charAt (ws_ yJ7_charAt cJ7_charAt 5 (Option.some Jvm.ClassFile.FieldType.char)) 3 103 D B0 E [.ref p0, .int p1] h (zoI r) h' := by
  unfold f_J7_charAt at hf
  refine zMet_of hst (by decide +kernel) rfl rfl (Nat.le_of_ble_eq_true rfl) (fun p e R s m below meth c C0 hno => ?_)
  show zW _ _ _ _ _ _ _ _ _ _ _ _ _ _ _ _ [(0, .ref p0), (1, .int p1)] []
  exact w_J7_charAt_b0 C0 hf
def f_J8_charAt_b0 (E : zE) (p0 : Nat) (p1 : Int32) (h : zH) : Option (Int32 × zH) :=
  (cko h p0 18).bind fun _ =>
  bnd2 (f_J7_charAt E p0 p1 h) fun x4 h2 =>
  (zgd .char x4).bind fun _ =>
  some (x4, h2)
theorem w_J8_charAt_b0 (C0 : zCx p l e R s m args below meth c D B0 2 "java/lang/StringBuilder" cJ8_charAt E 4 127 (Option.some Jvm.ClassFile.FieldType.char) "charAt") {r : Int32} {h' : zH} {p0 : Nat} {p1 : Int32} {h : zH} (hf : f_J8_charAt_b0 E p0 p1 h = some (r, h')) : zW p l e R s m args below meth c D B0 2 (zEnd D B0 R below args s (zoI r) h') h 0 [(0, .ref p0), (1, .int p1)] [] := by
  unfold f_J8_charAt_b0 at hf
  refine zr_aload_n C0 dJ8_charAt_0 rfl 0 rfl ?_
  refine zr_iload_n C0 dJ8_charAt_1 rfl 1 rfl ?_
  obtain ⟨_, e1, hf⟩ := zbind hf
  obtain ⟨x4, h2, e3, hf⟩ := zbind2 hf
  refine zr_callSU_r C0 cv_J8_329 rfl (zcko e1) (m_J7_charAt C0.2.2.2.2.2.2.1 e3) (by decide) (by decide) rfl rfl (Nat.le_of_ble_eq_true rfl) dJ8_charAt_2 rfl ?_
  obtain ⟨_, e5, hf⟩ := zbind hf
  refine zretW hf ?_
  exact zr_iret C0 (ty := .char) rfl (zgd_n e5) dJ8_charAt_5 rfl
def f_J8_charAt (E : zE) (p0 : Nat) (p1 : Int32) (h : zH) : Option (Int32 × zH) := f_J8_charAt_b0 E p0 p1 h
theorem m_J8_charAt {l : Launch} (hst : l.stackTraces = false) {D : zD} {B0 : Nat} {E : zE} {p0 : Nat} {p1 : Int32} {h h' : zH} {r : Int32} (hf : f_J8_charAt E p0 p1 h = some (r, h')) : zMet l yJ8_charAt (ws_ yJ8_charAt cJ8_charAt 2 (Option.some Jvm.ClassFile.FieldType.char)) 4 127 D B0 E [.ref p0, .int p1] h (zoI r) h' := by
  unfold f_J8_charAt at hf
  refine zMet_of hst (by decide +kernel) rfl rfl (Nat.le_of_ble_eq_true rfl) (fun p e R s m below meth c C0 hno => ?_)
  show zW _ _ _ _ _ _ _ _ _ _ _ _ _ _ _ _ [(0, .ref p0), (1, .int p1)] []
  exact w_J8_charAt_b0 C0 hf
def f_X1_formattedByte_b31 (E : zE) (s0 : Int32) (h : zH) : Option (Int32 × zH) :=
  some (s0, h)
theorem w_X1_formattedByte_b31 (C0 : zCx p l e R s m args below meth c D B0 2 "FranchiseLedger" cX1_formattedByte E 5 148 (Option.some Jvm.ClassFile.FieldType.int) "formattedByte") {r : Int32} {h' : zH} {s0 : Int32} {h : zH} (hf : f_X1_formattedByte_b31 E s0 h = some (r, h')) : zW p l e R s m args below meth c D B0 2 (zEnd D B0 R below args s (zoI r) h') h 31 [] [.int s0] := by
  unfold f_X1_formattedByte_b31 at hf
  refine zretW hf ?_
  exact zr_iret C0 (ty := .int) rfl rfl dX1_formattedByte_31 rfl
def f_X1_formattedByte_b0 (E : zE) (p0 : Nat) (p1 : Int32) (h : zH) : Option (Int32 × zH) :=
  (gR h p0 0 5).bind fun x1 =>
  (cko h x1 18).bind fun _ =>
  bnd2 (f_J8_length E x1 h) fun x6 h4 =>
  bnd2 (f_X1_inRange E (p1.toInt64) (0 : Int64) ((x6 - (1 : Int32)).toInt64) h4) fun x9 h7 =>
  if x9 = 0 then (
    f_X1_formattedByte_b31 E (-1 : Int32) h7
  ) else (
    (gR h7 p0 0 5).bind fun x11 =>
    (cko h7 x11 18).bind fun _ =>
    bnd2 (f_J8_charAt E x11 p1 h7) fun x16 h14 =>
    f_X1_formattedByte_b31 E x16 h14
  )
theorem w_X1_formattedByte_b0 (C0 : zCx p l e R s m args below meth c D B0 2 "FranchiseLedger" cX1_formattedByte E 5 148 (Option.some Jvm.ClassFile.FieldType.int) "formattedByte") {r : Int32} {h' : zH} {p0 : Nat} {p1 : Int32} {h : zH} (hf : f_X1_formattedByte_b0 E p0 p1 h = some (r, h')) : zW p l e R s m args below meth c D B0 2 (zEnd D B0 R below args s (zoI r) h') h 0 [(0, .ref p0), (1, .int p1)] [] := by
  unfold f_X1_formattedByte_b0 at hf
  refine zr_iload_n C0 dX1_formattedByte_0 rfl 1 rfl ?_
  refine zr_i2l C0 dX1_formattedByte_1 ?_
  refine zr_lconst C0 (v := 0) dX1_formattedByte_2 (by decide) ?_
  refine zr_aload_n C0 dX1_formattedByte_3 rfl 0 rfl ?_
  obtain ⟨x1, e2, hf⟩ := zbind hf
  refine zr_get C0 fl_X1_63_X1 dX1_formattedByte_4 (zgR e2) ?_
  obtain ⟨_, e3, hf⟩ := zbind hf
  obtain ⟨x6, h4, e5, hf⟩ := zbind2 hf
  refine zr_callV_r C0 cv_X1_442_J8 rfl (zcko e3) (m_J8_length C0.2.2.2.2.2.2.1 e5) (by decide) (by decide) rfl rfl (Nat.le_of_ble_eq_true rfl) dX1_formattedByte_7 rfl ?_
  refine zr_iconst C0 (v := 1) dX1_formattedByte_10 (by decide) ?_
  refine zr_isub C0 dX1_formattedByte_11 ?_
  refine zr_i2l C0 dX1_formattedByte_12 ?_
  obtain ⟨x9, h7, e8, hf⟩ := zbind2 hf
  refine zr_callS_r C0 cv_X1_84 (m_X1_inRange C0.2.2.2.2.2.2.1 e8) (by decide) (by decide) rfl rfl (Nat.le_of_ble_eq_true rfl) dX1_formattedByte_13 rfl ?_
  refine zr_if_eq C0 (tgt := 30) dX1_formattedByte_16 (by decide) (fun c10 => ?_) (fun c10 => ?_)
  · have hf := zif_t c10 hf
    refine zr_iconst C0 (v := -1) dX1_formattedByte_30 (by decide) ?_
    refine zr_sub [] rfl ?_
    exact w_X1_formattedByte_b31 C0 hf
  · have hf := zif_f c10 hf
    refine zr_aload_n C0 dX1_formattedByte_19 rfl 0 rfl ?_
    obtain ⟨x11, e12, hf⟩ := zbind hf
    refine zr_get C0 fl_X1_63_X1 dX1_formattedByte_20 (zgR e12) ?_
    refine zr_iload_n C0 dX1_formattedByte_23 rfl 1 rfl ?_
    obtain ⟨_, e13, hf⟩ := zbind hf
    obtain ⟨x16, h14, e15, hf⟩ := zbind2 hf
    refine zr_callV_r C0 cv_X1_483_J8 rfl (zcko e13) (m_J8_charAt C0.2.2.2.2.2.2.1 e15) (by decide) (by decide) rfl rfl (Nat.le_of_ble_eq_true rfl) dX1_formattedByte_24 rfl ?_
    refine zr_goto C0 (tgt := 31) dX1_formattedByte_27 (by decide) ?_
    refine zr_sub [] rfl ?_
    exact w_X1_formattedByte_b31 C0 hf
def f_X1_formattedByte (E : zE) (p0 : Nat) (p1 : Int32) (h : zH) : Option (Int32 × zH) := f_X1_formattedByte_b0 E p0 p1 h
theorem m_X1_formattedByte {l : Launch} (hst : l.stackTraces = false) {D : zD} {B0 : Nat} {E : zE} {p0 : Nat} {p1 : Int32} {h h' : zH} {r : Int32} (hf : f_X1_formattedByte E p0 p1 h = some (r, h')) : zMet l yX1_formattedByte (ws_ yX1_formattedByte cX1_formattedByte 2 (Option.some Jvm.ClassFile.FieldType.int)) 5 148 D B0 E [.ref p0, .int p1] h (zoI r) h' := by
  unfold f_X1_formattedByte at hf
  refine zMet_of hst (by decide +kernel) rfl rfl (Nat.le_of_ble_eq_true rfl) (fun p e R s m below meth c C0 hno => ?_)
  show zW _ _ _ _ _ _ _ _ _ _ _ _ _ _ _ _ [(0, .ref p0), (1, .int p1)] []
  exact w_X1_formattedByte_b0 C0 hf
def f_X1_append_l41 (E : zE) (k25 : Nat → Nat → Int32 → Int32 → zH → Option (Int32 × zH)) : Nat → Nat → Nat → Int32 → Int32 → Int32 → Int32 → zH → Option (Int32 × zH)
  | 0, _, _, _, _, _, _, _ => none
  | n + 1, p0, p2, p3, p4, p5, p6, h =>
    if p6 < 0 then (
      k25 p0 p2 p3 (p4 + 1) h
    ) else (
      (gR h p0 0 6).bind fun x2 =>
      (gI h p0 0 7).bind fun x4 =>
      (sI h x2 2 x4 (((p5 >>> (p6 &&& 31)).toInt8.toInt32).toInt8.toInt32)).bind fun h6 =>
      (gI h6 p0 0 7).bind fun x8 =>
      (pF h6 p0 0 7 (.int (x8 + (1 : Int32)))).bind fun h10 =>
      f_X1_append_l41 E k25 n p0 p2 p3 p4 p5 (p6 + (-8)) h10
    )
theorem w_X1_append_l41 (C0 : zCx p l e R s m args below meth c D B0 7 "FranchiseLedger" cX1_append E 1 60 (Option.some Jvm.ClassFile.FieldType.int) "append") {r : Int32} {h' : zH} {k25 : Nat → Nat → Int32 → Int32 → zH → Option (Int32 × zH)} (hk25 : ∀ (p0 : Nat) (p2 : Nat) (p3 : Int32) (p4 : Int32) (h : zH), k25 p0 p2 p3 p4 h = some (r, h') → zW p l e R s m args below meth c D B0 7 (zEnd D B0 R below args s (zoI r) h') h 25 [(0, .ref p0), (2, .ref p2), (3, .int p3), (4, .int p4)] []) : ∀ (n : Nat) (p0 : Nat) (p2 : Nat) (p3 : Int32) (p4 : Int32) (p5 : Int32) (p6 : Int32) (h : zH), f_X1_append_l41 E k25 n p0 p2 p3 p4 p5 p6 h = some (r, h') → zW p l e R s m args below meth c D B0 7 (zEnd D B0 R below args s (zoI r) h') h 41 [(0, .ref p0), (2, .ref p2), (3, .int p3), (4, .int p4), (5, .int p5), (6, .int p6)] [] := by
  intro n
  induction n with
  | zero =>
    intro p0 p2 p3 p4 p5 p6 h hf
    unfold f_X1_append_l41 at hf
    cases hf
  | succ n ih =>
    intro p0 p2 p3 p4 p5 p6 h hf
    unfold f_X1_append_l41 at hf
    refine zr_iload C0 dX1_append_41 5 rfl ?_
    refine zr_if_lt C0 (tgt := 77) dX1_append_43 (by decide) (fun c1 => ?_) (fun c1 => ?_)
    · have hf := zif_t c1 hf
      refine zr_iinc (lv' := [(4, .int (p4 + 1)), (0, .ref p0), (2, .ref p2), (3, .int p3), (5, .int p5), (6, .int p6)]) C0 dX1_append_77 3 rfl rfl (by decide) (by first | rfl | simp [zst1, zst2, zcat_rf]) ?_
      refine zr_goto C0 (tgt := 25) dX1_append_80 (by decide) ?_
      refine zr_sub [1, 2, 3, 0] rfl ?_
      exact hk25 _ _ _ _ _ hf
    · have hf := zif_f c1 hf
      refine zr_aload_n C0 dX1_append_46 rfl 0 rfl ?_
      obtain ⟨x2, e3, hf⟩ := zbind hf
      refine zr_get C0 fl_X1_67_X1 dX1_append_47 (zgR e3) ?_
      refine zr_aload_n C0 dX1_append_50 rfl 0 rfl ?_
      obtain ⟨x4, e5, hf⟩ := zbind hf
      refine zr_get C0 fl_X1_487_X1 dX1_append_51 (zgI e5) ?_
      refine zr_iload C0 dX1_append_54 4 rfl ?_
      refine zr_iload C0 dX1_append_56 5 rfl ?_
      refine zr_ishr C0 dX1_append_58 ?_
      refine zr_i2b C0 dX1_append_59 ?_
      obtain ⟨h6, e7, hf⟩ := zbind hf
      refine zr_bast C0 dX1_append_60 e7 ?_
      refine zr_aload_n C0 dX1_append_61 rfl 0 rfl ?_
      refine zr_dup C0 dX1_append_62 rfl ?_
      obtain ⟨x8, e9, hf⟩ := zbind hf
      refine zr_get C0 fl_X1_487_X1 dX1_append_63 (zgI e9) ?_
      refine zr_iconst C0 (v := 1) dX1_append_66 (by decide) ?_
      refine zr_iadd C0 dX1_append_67 ?_
      obtain ⟨h10, e11, hf⟩ := zbind hf
      refine zr_put C0 pl_X1_487_X1 dX1_append_68 (fun h => by cases h) rfl rfl e11 ?_
      refine zr_iinc (lv' := [(6, .int (p6 + (-8))), (0, .ref p0), (2, .ref p2), (3, .int p3), (4, .int p4), (5, .int p5)]) C0 dX1_append_71 5 rfl rfl (by decide) (by first | rfl | simp [zst1, zst2, zcat_rf]) ?_
      refine zr_goto C0 (tgt := 41) dX1_append_74 (by decide) ?_
      refine zr_sub [1, 2, 3, 4, 5, 0] rfl ?_
      exact ih _ _ _ _ _ _ _ hf
def f_X1_append_l25 (E : zE) : Nat → Nat → Nat → Int32 → Int32 → zH → Option (Int32 × zH)
  | 0, _, _, _, _, _ => none
  | n + 1, p0, p2, p3, p4, h =>
    if p3 ≤ p4 then (
      (gI h p0 0 7).bind fun x2 =>
      some (x2, h)
    ) else (
      (dI h p2 0 p4).bind fun x4 =>
      f_X1_append_l41 E (f_X1_append_l25 E n) E.1 p0 p2 p3 p4 x4 (24 : Int32) h
    )
theorem w_X1_append_l25 (C0 : zCx p l e R s m args below meth c D B0 7 "FranchiseLedger" cX1_append E 1 60 (Option.some Jvm.ClassFile.FieldType.int) "append") {r : Int32} {h' : zH} : ∀ (n : Nat) (p0 : Nat) (p2 : Nat) (p3 : Int32) (p4 : Int32) (h : zH), f_X1_append_l25 E n p0 p2 p3 p4 h = some (r, h') → zW p l e R s m args below meth c D B0 7 (zEnd D B0 R below args s (zoI r) h') h 25 [(0, .ref p0), (2, .ref p2), (3, .int p3), (4, .int p4)] [] := by
  intro n
  induction n with
  | zero =>
    intro p0 p2 p3 p4 h hf
    unfold f_X1_append_l25 at hf
    cases hf
  | succ n ih =>
    intro p0 p2 p3 p4 h hf
    unfold f_X1_append_l25 at hf
    refine zr_iload C0 dX1_append_25 3 rfl ?_
    refine zr_iload_n C0 dX1_append_27 rfl 2 rfl ?_
    refine zr_icmp_ge C0 (tgt := 83) dX1_append_28 (by decide) (fun c1 => ?_) (fun c1 => ?_)
    · have hf := zif_t c1 hf
      refine zr_aload_n C0 dX1_append_83 rfl 0 rfl ?_
      obtain ⟨x2, e3, hf⟩ := zbind hf
      refine zr_get C0 fl_X1_487_X1 dX1_append_84 (zgI e3) ?_
      refine zretW hf ?_
      exact zr_iret C0 (ty := .int) rfl rfl dX1_append_87 rfl
    · have hf := zif_f c1 hf
      refine zr_aload_n C0 dX1_append_31 rfl 1 rfl ?_
      refine zr_iload C0 dX1_append_32 3 rfl ?_
      obtain ⟨x4, e5, hf⟩ := zbind hf
      refine zr_iald C0 dX1_append_34 e5 ?_
      refine zr_istore (i := 5) (lv' := [(5, .int x4), (0, .ref p0), (2, .ref p2), (3, .int p3), (4, .int p4)]) C0 dX1_append_35 (by decide) (by first | rfl | simp [zst1, zst2, zcat_rf]) ?_
      refine zr_bipush C0 (v := 24) dX1_append_37 (by decide) ?_
      refine zr_istore (i := 6) (lv' := [(6, .int (24 : Int32)), (5, .int x4), (0, .ref p0), (2, .ref p2), (3, .int p3), (4, .int p4)]) C0 dX1_append_39 (by decide) (by first | rfl | simp [zst1, zst2, zcat_rf]) ?_
      refine zr_sub [2, 3, 4, 5, 1, 0] rfl ?_
      exact w_X1_append_l41 C0 ih _ _ _ _ _ _ _ _ hf
def f_X1_append_b0 (E : zE) (p0 : Nat) (p1 : Nat) (h : zH) : Option (Int32 × zH) :=
  (gI h p0 0 7).bind fun x1 =>
  (lenA h p1).bind fun x3 =>
  if (x1 + ((4 : Int32) * x3)) ≤ (1500 : Int32) then (
    (lenA h p1).bind fun x6 =>
    f_X1_append_l25 E E.1 p0 p1 x6 (0 : Int32) h
  ) else (
    some ((-1 : Int32), h)
  )
theorem w_X1_append_b0 (C0 : zCx p l e R s m args below meth c D B0 7 "FranchiseLedger" cX1_append E 1 60 (Option.some Jvm.ClassFile.FieldType.int) "append") {r : Int32} {h' : zH} {p0 : Nat} {p1 : Nat} {h : zH} (hf : f_X1_append_b0 E p0 p1 h = some (r, h')) : zW p l e R s m args below meth c D B0 7 (zEnd D B0 R below args s (zoI r) h') h 0 [(0, .ref p0), (1, .ref p1)] [] := by
  unfold f_X1_append_b0 at hf
  refine zr_aload_n C0 dX1_append_0 rfl 0 rfl ?_
  obtain ⟨x1, e2, hf⟩ := zbind hf
  refine zr_get C0 fl_X1_487_X1 dX1_append_1 (zgI e2) ?_
  refine zr_iconst C0 (v := 4) dX1_append_4 (by decide) ?_
  refine zr_aload_n C0 dX1_append_5 rfl 1 rfl ?_
  obtain ⟨x3, e4, hf⟩ := zbind hf
  refine zr_alen C0 dX1_append_6 e4 ?_
  refine zr_imul C0 dX1_append_7 ?_
  refine zr_iadd C0 dX1_append_8 ?_
  refine zr_sipush C0 (v := 1500) dX1_append_9 (by decide) ?_
  refine zr_icmp_le C0 (tgt := 17) dX1_append_12 (by decide) (fun c5 => ?_) (fun c5 => ?_)
  · have hf := zif_t c5 hf
    refine zr_aload_n C0 dX1_append_17 rfl 1 rfl ?_
    refine zr_astore_n (i := 2) (lv' := [(2, .ref p1), (0, .ref p0), (1, .ref p1)]) C0 dX1_append_18 rfl (by decide) (by first | rfl | simp [zst1, zst2, zcat_rf]) ?_
    refine zr_aload_n C0 dX1_append_19 rfl 0 rfl ?_
    obtain ⟨x6, e7, hf⟩ := zbind hf
    refine zr_alen C0 dX1_append_20 e7 ?_
    refine zr_istore_n (i := 3) (lv' := [(3, .int x6), (2, .ref p1), (0, .ref p0), (1, .ref p1)]) C0 dX1_append_21 rfl (by decide) (by first | rfl | simp [zst1, zst2, zcat_rf]) ?_
    refine zr_iconst C0 (v := 0) dX1_append_22 (by decide) ?_
    refine zr_istore (i := 4) (lv' := [(4, .int (0 : Int32)), (3, .int x6), (2, .ref p1), (0, .ref p0), (1, .ref p1)]) C0 dX1_append_23 (by decide) (by first | rfl | simp [zst1, zst2, zcat_rf]) ?_
    refine zr_sub [3, 2, 1, 0] rfl ?_
    exact w_X1_append_l25 C0 _ _ _ _ _ _ hf
  · have hf := zif_f c5 hf
    refine zr_iconst C0 (v := -1) dX1_append_15 (by decide) ?_
    refine zretW hf ?_
    exact zr_iret C0 (ty := .int) rfl rfl dX1_append_16 rfl
def f_X1_append (E : zE) (p0 : Nat) (p1 : Nat) (h : zH) : Option (Int32 × zH) := f_X1_append_b0 E p0 p1 h
theorem m_X1_append {l : Launch} (hst : l.stackTraces = false) {D : zD} {B0 : Nat} {E : zE} {p0 : Nat} {p1 : Nat} {h h' : zH} {r : Int32} (hf : f_X1_append E p0 p1 h = some (r, h')) : zMet l yX1_append (ws_ yX1_append cX1_append 7 (Option.some Jvm.ClassFile.FieldType.int)) 1 60 D B0 E [.ref p0, .ref p1] h (zoI r) h' := by
  unfold f_X1_append at hf
  refine zMet_of hst (by decide +kernel) rfl rfl (Nat.le_of_ble_eq_true rfl) (fun p e R s m below meth c C0 hno => ?_)
  show zW _ _ _ _ _ _ _ _ _ _ _ _ _ _ _ _ [(0, .ref p0), (1, .ref p1)] []
  exact w_X1_append_b0 C0 hf
def f_X1_appendInput_b0 (E : zE) (p0 : Nat) (p1 : Int32) (p2 : Int32) (p3 : Int32) (p4 : Int32) (p5 : Int32) (h : zH) : Option (Int32 × zH) :=
  bnd2 (nA h 0 (5 : Int32) (.inl fun _ => 0)) fun q1 h2 =>
  (sI h2 q1 0 (0 : Int32) p1).bind fun h4 =>
  (sI h4 q1 0 (1 : Int32) p2).bind fun h6 =>
  (sI h6 q1 0 (2 : Int32) p3).bind fun h8 =>
  (sI h8 q1 0 (3 : Int32) p4).bind fun h10 =>
  (sI h10 q1 0 (4 : Int32) p5).bind fun h12 =>
  (cko h12 p0 0).bind fun _ =>
  bnd2 (f_X1_append E p0 q1 h12) fun x17 h15 =>
  some (x17, h15)
theorem w_X1_appendInput_b0 (C0 : zCx p l e R s m args below meth c D B0 6 "FranchiseLedger" cX1_appendInput E 2 86 (Option.some Jvm.ClassFile.FieldType.int) "appendInput") {r : Int32} {h' : zH} {p0 : Nat} {p1 : Int32} {p2 : Int32} {p3 : Int32} {p4 : Int32} {p5 : Int32} {h : zH} (hf : f_X1_appendInput_b0 E p0 p1 p2 p3 p4 p5 h = some (r, h')) : zW p l e R s m args below meth c D B0 6 (zEnd D B0 R below args s (zoI r) h') h 0 [(0, .ref p0), (1, .int p1), (2, .int p2), (3, .int p3), (4, .int p4), (5, .int p5)] [] := by
  unfold f_X1_appendInput_b0 at hf
  refine zr_aload_n C0 dX1_appendInput_0 rfl 0 rfl ?_
  refine zr_iconst C0 (v := 5) dX1_appendInput_1 (by decide) ?_
  obtain ⟨q1, h2, e3, hf⟩ := zbind2 hf
  refine zr_newa C0 (atype := .int) (t := 0) q626 rfl (by decide) (fun _ => rfl) dX1_appendInput_2 e3 ?_
  refine zr_dup C0 dX1_appendInput_4 rfl ?_
  refine zr_iconst C0 (v := 0) dX1_appendInput_5 (by decide) ?_
  refine zr_iload_n C0 dX1_appendInput_6 rfl 1 rfl ?_
  obtain ⟨h4, e5, hf⟩ := zbind hf
  refine zr_iast C0 dX1_appendInput_7 e5 ?_
  refine zr_dup C0 dX1_appendInput_8 rfl ?_
  refine zr_iconst C0 (v := 1) dX1_appendInput_9 (by decide) ?_
  refine zr_iload_n C0 dX1_appendInput_10 rfl 2 rfl ?_
  obtain ⟨h6, e7, hf⟩ := zbind hf
  refine zr_iast C0 dX1_appendInput_11 e7 ?_
  refine zr_dup C0 dX1_appendInput_12 rfl ?_
  refine zr_iconst C0 (v := 2) dX1_appendInput_13 (by decide) ?_
  refine zr_iload_n C0 dX1_appendInput_14 rfl 3 rfl ?_
  obtain ⟨h8, e9, hf⟩ := zbind hf
  refine zr_iast C0 dX1_appendInput_15 e9 ?_
  refine zr_dup C0 dX1_appendInput_16 rfl ?_
  refine zr_iconst C0 (v := 3) dX1_appendInput_17 (by decide) ?_
  refine zr_iload C0 dX1_appendInput_18 4 rfl ?_
  obtain ⟨h10, e11, hf⟩ := zbind hf
  refine zr_iast C0 dX1_appendInput_20 e11 ?_
  refine zr_dup C0 dX1_appendInput_21 rfl ?_
  refine zr_iconst C0 (v := 4) dX1_appendInput_22 (by decide) ?_
  refine zr_iload C0 dX1_appendInput_23 5 rfl ?_
  obtain ⟨h12, e13, hf⟩ := zbind hf
  refine zr_iast C0 dX1_appendInput_25 e13 ?_
  obtain ⟨_, e14, hf⟩ := zbind hf
  obtain ⟨x17, h15, e16, hf⟩ := zbind2 hf
  refine zr_callV_r C0 cv_X1_490_X1 rfl (zcko e14) (m_X1_append C0.2.2.2.2.2.2.1 e16) (by decide) (by decide) rfl rfl (Nat.le_of_ble_eq_true rfl) dX1_appendInput_26 rfl ?_
  refine zretW hf ?_
  exact zr_iret C0 (ty := .int) rfl rfl dX1_appendInput_29 rfl
def f_X1_appendInput (E : zE) (p0 : Nat) (p1 : Int32) (p2 : Int32) (p3 : Int32) (p4 : Int32) (p5 : Int32) (h : zH) : Option (Int32 × zH) := f_X1_appendInput_b0 E p0 p1 p2 p3 p4 p5 h
theorem m_X1_appendInput {l : Launch} (hst : l.stackTraces = false) {D : zD} {B0 : Nat} {E : zE} {p0 : Nat} {p1 : Int32} {p2 : Int32} {p3 : Int32} {p4 : Int32} {p5 : Int32} {h h' : zH} {r : Int32} (hf : f_X1_appendInput E p0 p1 p2 p3 p4 p5 h = some (r, h')) : zMet l yX1_appendInput (ws_ yX1_appendInput cX1_appendInput 6 (Option.some Jvm.ClassFile.FieldType.int)) 2 86 D B0 E [.ref p0, .int p1, .int p2, .int p3, .int p4, .int p5] h (zoI r) h' := by
  unfold f_X1_appendInput at hf
  refine zMet_of hst (by decide +kernel) rfl rfl (Nat.le_of_ble_eq_true rfl) (fun p e R s m below meth c C0 hno => ?_)
  show zW _ _ _ _ _ _ _ _ _ _ _ _ _ _ _ _ [(0, .ref p0), (1, .int p1), (2, .int p2), (3, .int p3), (4, .int p4), (5, .int p5)] []
  exact w_X1_appendInput_b0 C0 hf
def f_X1_truncateInput_b0 (E : zE) (p0 : Nat) (p1 : Int32) (h : zH) : Option (Int32 × zH) :=
  (gI h p0 0 7).bind fun x1 =>
  bnd2 (f_X1_inRange E (p1.toInt64) (0 : Int64) (x1.toInt64) h) fun x5 h3 =>
  if x5 = 0 then (
    some ((-1 : Int32), h3)
  ) else (
    (pF h3 p0 0 7 (.int p1)).bind fun h7 =>
    some (p1, h7)
  )
theorem w_X1_truncateInput_b0 (C0 : zCx p l e R s m args below meth c D B0 2 "FranchiseLedger" cX1_truncateInput E 2 85 (Option.some Jvm.ClassFile.FieldType.int) "truncateInput") {r : Int32} {h' : zH} {p0 : Nat} {p1 : Int32} {h : zH} (hf : f_X1_truncateInput_b0 E p0 p1 h = some (r, h')) : zW p l e R s m args below meth c D B0 2 (zEnd D B0 R below args s (zoI r) h') h 0 [(0, .ref p0), (1, .int p1)] [] := by
  unfold f_X1_truncateInput_b0 at hf
  refine zr_iload_n C0 dX1_truncateInput_0 rfl 1 rfl ?_
  refine zr_i2l C0 dX1_truncateInput_1 ?_
  refine zr_lconst C0 (v := 0) dX1_truncateInput_2 (by decide) ?_
  refine zr_aload_n C0 dX1_truncateInput_3 rfl 0 rfl ?_
  obtain ⟨x1, e2, hf⟩ := zbind hf
  refine zr_get C0 fl_X1_487_X1 dX1_truncateInput_4 (zgI e2) ?_
  refine zr_i2l C0 dX1_truncateInput_7 ?_
  obtain ⟨x5, h3, e4, hf⟩ := zbind2 hf
  refine zr_callS_r C0 cv_X1_84 (m_X1_inRange C0.2.2.2.2.2.2.1 e4) (by decide) (by decide) rfl rfl (Nat.le_of_ble_eq_true rfl) dX1_truncateInput_8 rfl ?_
  refine zr_if_ne C0 (tgt := 16) dX1_truncateInput_11 (by decide) (fun c6 => ?_) (fun c6 => ?_)
  · have hf := zif_f c6 hf
    refine zr_aload_n C0 dX1_truncateInput_16 rfl 0 rfl ?_
    refine zr_iload_n C0 dX1_truncateInput_17 rfl 1 rfl ?_
    obtain ⟨h7, e8, hf⟩ := zbind hf
    refine zr_put C0 pl_X1_487_X1 dX1_truncateInput_18 (fun h => by cases h) rfl rfl e8 ?_
    refine zr_iload_n C0 dX1_truncateInput_21 rfl 1 rfl ?_
    refine zretW hf ?_
    exact zr_iret C0 (ty := .int) rfl rfl dX1_truncateInput_22 rfl
  · have hf := zif_t c6 hf
    refine zr_iconst C0 (v := -1) dX1_truncateInput_14 (by decide) ?_
    refine zretW hf ?_
    exact zr_iret C0 (ty := .int) rfl rfl dX1_truncateInput_15 rfl
def f_X1_truncateInput (E : zE) (p0 : Nat) (p1 : Int32) (h : zH) : Option (Int32 × zH) := f_X1_truncateInput_b0 E p0 p1 h
theorem m_X1_truncateInput {l : Launch} (hst : l.stackTraces = false) {D : zD} {B0 : Nat} {E : zE} {p0 : Nat} {p1 : Int32} {h h' : zH} {r : Int32} (hf : f_X1_truncateInput E p0 p1 h = some (r, h')) : zMet l yX1_truncateInput (ws_ yX1_truncateInput cX1_truncateInput 2 (Option.some Jvm.ClassFile.FieldType.int)) 2 85 D B0 E [.ref p0, .int p1] h (zoI r) h' := by
  unfold f_X1_truncateInput at hf
  refine zMet_of hst (by decide +kernel) rfl rfl (Nat.le_of_ble_eq_true rfl) (fun p e R s m below meth c C0 hno => ?_)
  show zW _ _ _ _ _ _ _ _ _ _ _ _ _ _ _ _ [(0, .ref p0), (1, .int p1)] []
  exact w_X1_truncateInput_b0 C0 hf
def f_J9_coder_b14 (E : zE) (s0 : Int32) (h : zH) : Option (Int32 × zH) :=
  (zgd .byte s0).bind fun _ =>
  some (s0, h)
theorem w_J9_coder_b14 (C0 : zCx p l e R s m args below meth c D B0 1 "java/lang/String" cJ9_coder E 1 60 (Option.some Jvm.ClassFile.FieldType.byte) "coder") {r : Int32} {h' : zH} {s0 : Int32} {h : zH} (hf : f_J9_coder_b14 E s0 h = some (r, h')) : zW p l e R s m args below meth c D B0 1 (zEnd D B0 R below args s (zoI r) h') h 14 [] [.int s0] := by
  unfold f_J9_coder_b14 at hf
  obtain ⟨_, e1, hf⟩ := zbind hf
  refine zretW hf ?_
  exact zr_iret C0 (ty := .byte) rfl (zgd_n e1) dJ9_coder_14 rfl
def f_J9_coder_b0 (E : zE) (p0 : Nat) (h : zH) : Option (Int32 × zH) :=
  if (1 : Int32) = 0 then (
    f_J9_coder_b14 E (1 : Int32) h
  ) else (
    (gI h p0 19 1).bind fun x2 =>
    f_J9_coder_b14 E x2 h
  )
theorem w_J9_coder_b0 (C0 : zCx p l e R s m args below meth c D B0 1 "java/lang/String" cJ9_coder E 1 60 (Option.some Jvm.ClassFile.FieldType.byte) "coder") {r : Int32} {h' : zH} {p0 : Nat} {h : zH} (hf : f_J9_coder_b0 E p0 h = some (r, h')) : zW p l e R s m args below meth c D B0 1 (zEnd D B0 R below args s (zoI r) h') h 0 [(0, .ref p0)] [] := by
  unfold f_J9_coder_b0 at hf
  refine zr_gets C0 (C0.2.2.2.2.2.2.2.2.2.1.2.2.1 _ (List.mem_of_getElem? (i := 0) rfl)) q369 dJ9_coder_0 ?_
  refine zr_if_eq C0 (tgt := 13) dJ9_coder_3 (by decide) (fun c1 => ?_) (fun c1 => ?_)
  · have hf := zif_t c1 hf
    refine zr_iconst C0 (v := 1) dJ9_coder_13 (by decide) ?_
    refine zr_sub [] rfl ?_
    exact w_J9_coder_b14 C0 hf
  · have hf := zif_f c1 hf
    refine zr_aload_n C0 dJ9_coder_6 rfl 0 rfl ?_
    obtain ⟨x2, e3, hf⟩ := zbind hf
    refine zr_get C0 fl_J9_15_J9 dJ9_coder_7 (zgI e3) ?_
    refine zr_goto C0 (tgt := 14) dJ9_coder_10 (by decide) ?_
    refine zr_sub [] rfl ?_
    exact w_J9_coder_b14 C0 hf
def f_J9_coder (E : zE) (p0 : Nat) (h : zH) : Option (Int32 × zH) := f_J9_coder_b0 E p0 h
theorem m_J9_coder {l : Launch} (hst : l.stackTraces = false) {D : zD} {B0 : Nat} {E : zE} {p0 : Nat} {h h' : zH} {r : Int32} (hf : f_J9_coder E p0 h = some (r, h')) : zMet l yJ9_coder (ws_ yJ9_coder cJ9_coder 1 (Option.some Jvm.ClassFile.FieldType.byte)) 1 60 D B0 E [.ref p0] h (zoI r) h' := by
  unfold f_J9_coder at hf
  refine zMet_of hst (by decide +kernel) rfl rfl (Nat.le_of_ble_eq_true rfl) (fun p e R s m below meth c C0 hno => ?_)
  show zW _ _ _ _ _ _ _ _ _ _ _ _ _ _ _ _ [(0, .ref p0)] []
  exact w_J9_coder_b0 C0 hf
def f_J9_length_b0 (E : zE) (p0 : Nat) (h : zH) : Option (Int32 × zH) :=
  (gR h p0 19 0).bind fun x1 =>
  (lenA h x1).bind fun x3 =>
  (cko h p0 19).bind fun _ =>
  bnd2 (f_J9_coder E p0 h) fun x8 h6 =>
  some ((x3 >>> (x8 &&& 31)), h6)
theorem w_J9_length_b0 (C0 : zCx p l e R s m args below meth c D B0 1 "java/lang/String" cJ9_length E 2 80 (Option.some Jvm.ClassFile.FieldType.int) "length") {r : Int32} {h' : zH} {p0 : Nat} {h : zH} (hf : f_J9_length_b0 E p0 h = some (r, h')) : zW p l e R s m args below meth c D B0 1 (zEnd D B0 R below args s (zoI r) h') h 0 [(0, .ref p0)] [] := by
  unfold f_J9_length_b0 at hf
  refine zr_aload_n C0 dJ9_length_0 rfl 0 rfl ?_
  obtain ⟨x1, e2, hf⟩ := zbind hf
  refine zr_get C0 fl_J9_9_J9 dJ9_length_1 (zgR e2) ?_
  obtain ⟨x3, e4, hf⟩ := zbind hf
  refine zr_alen C0 dJ9_length_4 e4 ?_
  refine zr_aload_n C0 dJ9_length_5 rfl 0 rfl ?_
  obtain ⟨_, e5, hf⟩ := zbind hf
  obtain ⟨x8, h6, e7, hf⟩ := zbind2 hf
  refine zr_callV_r C0 cv_J9_335_J9 rfl (zcko e5) (m_J9_coder C0.2.2.2.2.2.2.1 e7) (by decide) (by decide) rfl rfl (Nat.le_of_ble_eq_true rfl) dJ9_length_6 rfl ?_
  refine zr_ishr C0 dJ9_length_9 ?_
  refine zretW hf ?_
  exact zr_iret C0 (ty := .int) rfl rfl dJ9_length_10 rfl
def f_J9_length (E : zE) (p0 : Nat) (h : zH) : Option (Int32 × zH) := f_J9_length_b0 E p0 h
theorem m_J9_length {l : Launch} (hst : l.stackTraces = false) {D : zD} {B0 : Nat} {E : zE} {p0 : Nat} {h h' : zH} {r : Int32} (hf : f_J9_length E p0 h = some (r, h')) : zMet l yJ9_length (ws_ yJ9_length cJ9_length 1 (Option.some Jvm.ClassFile.FieldType.int)) 2 80 D B0 E [.ref p0] h (zoI r) h' := by
  unfold f_J9_length at hf
  refine zMet_of hst (by decide +kernel) rfl rfl (Nat.le_of_ble_eq_true rfl) (fun p e R s m below meth c C0 hno => ?_)
  show zW _ _ _ _ _ _ _ _ _ _ _ _ _ _ _ _ [(0, .ref p0)] []
  exact w_J9_length_b0 C0 hf
def f_J7_getValue_b0 (E : zE) (p0 : Nat) (h : zH) : Option (Nat × zH) :=
  (gR h p0 18 0).bind fun x1 =>
  some (x1, h)
theorem w_J7_getValue_b0 (C0 : zCx p l e R s m args below meth c D B0 1 "java/lang/AbstractStringBuilder" cJ7_getValue E 1 60 (Option.some (Jvm.ClassFile.FieldType.array Jvm.ClassFile.FieldType.byte)) "getValue") {r : Nat} {h' : zH} {p0 : Nat} {h : zH} (hf : f_J7_getValue_b0 E p0 h = some (r, h')) : zW p l e R s m args below meth c D B0 1 (zEnd D B0 R below args s (zoR r) h') h 0 [(0, .ref p0)] [] := by
  unfold f_J7_getValue_b0 at hf
  refine zr_aload_n C0 dJ7_getValue_0 rfl 0 rfl ?_
  obtain ⟨x1, e2, hf⟩ := zbind hf
  refine zr_get C0 fl_J7_15_J8 dJ7_getValue_1 (zgR e2) ?_
  refine zretW hf ?_
  exact zr_aret C0 rfl (Or.inr ⟨_, rfl⟩) dJ7_getValue_4 rfl
def f_J7_getValue (E : zE) (p0 : Nat) (h : zH) : Option (Nat × zH) := f_J7_getValue_b0 E p0 h
theorem m_J7_getValue {l : Launch} (hst : l.stackTraces = false) {D : zD} {B0 : Nat} {E : zE} {p0 : Nat} {h h' : zH} {r : Nat} (hf : f_J7_getValue E p0 h = some (r, h')) : zMet l yJ7_getValue (ws_ yJ7_getValue cJ7_getValue 1 (Option.some (Jvm.ClassFile.FieldType.array Jvm.ClassFile.FieldType.byte))) 1 60 D B0 E [.ref p0] h (zoR r) h' := by
  unfold f_J7_getValue at hf
  refine zMet_of hst (by decide +kernel) rfl rfl (Nat.le_of_ble_eq_true rfl) (fun p e R s m below meth c C0 hno => ?_)
  show zW _ _ _ _ _ _ _ _ _ _ _ _ _ _ _ _ [(0, .ref p0)] []
  exact w_J7_getValue_b0 C0 hf
def f_J7_getCoder_b14 (E : zE) (s0 : Int32) (h : zH) : Option (Int32 × zH) :=
  (zgd .byte s0).bind fun _ =>
  some (s0, h)
theorem w_J7_getCoder_b14 (C0 : zCx p l e R s m args below meth c D B0 1 "java/lang/AbstractStringBuilder" cJ7_getCoder E 1 60 (Option.some Jvm.ClassFile.FieldType.byte) "getCoder") {r : Int32} {h' : zH} {s0 : Int32} {h : zH} (hf : f_J7_getCoder_b14 E s0 h = some (r, h')) : zW p l e R s m args below meth c D B0 1 (zEnd D B0 R below args s (zoI r) h') h 14 [] [.int s0] := by
  unfold f_J7_getCoder_b14 at hf
  obtain ⟨_, e1, hf⟩ := zbind hf
  refine zretW hf ?_
  exact zr_iret C0 (ty := .byte) rfl (zgd_n e1) dJ7_getCoder_14 rfl
def f_J7_getCoder_b0 (E : zE) (p0 : Nat) (h : zH) : Option (Int32 × zH) :=
  if (1 : Int32) = 0 then (
    f_J7_getCoder_b14 E (1 : Int32) h
  ) else (
    (gI h p0 18 1).bind fun x2 =>
    f_J7_getCoder_b14 E x2 h
  )
theorem w_J7_getCoder_b0 (C0 : zCx p l e R s m args below meth c D B0 1 "java/lang/AbstractStringBuilder" cJ7_getCoder E 1 60 (Option.some Jvm.ClassFile.FieldType.byte) "getCoder") {r : Int32} {h' : zH} {p0 : Nat} {h : zH} (hf : f_J7_getCoder_b0 E p0 h = some (r, h')) : zW p l e R s m args below meth c D B0 1 (zEnd D B0 R below args s (zoI r) h') h 0 [(0, .ref p0)] [] := by
  unfold f_J7_getCoder_b0 at hf
  refine zr_gets C0 (C0.2.2.2.2.2.2.2.2.2.1.2.2.1 _ (List.mem_of_getElem? (i := 0) rfl)) q259 dJ7_getCoder_0 ?_
  refine zr_if_eq C0 (tgt := 13) dJ7_getCoder_3 (by decide) (fun c1 => ?_) (fun c1 => ?_)
  · have hf := zif_t c1 hf
    refine zr_iconst C0 (v := 1) dJ7_getCoder_13 (by decide) ?_
    refine zr_sub [] rfl ?_
    exact w_J7_getCoder_b14 C0 hf
  · have hf := zif_f c1 hf
    refine zr_aload_n C0 dJ7_getCoder_6 rfl 0 rfl ?_
    obtain ⟨x2, e3, hf⟩ := zbind hf
    refine zr_get C0 fl_J7_22_J8 dJ7_getCoder_7 (zgI e3) ?_
    refine zr_goto C0 (tgt := 14) dJ7_getCoder_10 (by decide) ?_
    refine zr_sub [] rfl ?_
    exact w_J7_getCoder_b14 C0 hf
def f_J7_getCoder (E : zE) (p0 : Nat) (h : zH) : Option (Int32 × zH) := f_J7_getCoder_b0 E p0 h
theorem m_J7_getCoder {l : Launch} (hst : l.stackTraces = false) {D : zD} {B0 : Nat} {E : zE} {p0 : Nat} {h h' : zH} {r : Int32} (hf : f_J7_getCoder E p0 h = some (r, h')) : zMet l yJ7_getCoder (ws_ yJ7_getCoder cJ7_getCoder 1 (Option.some Jvm.ClassFile.FieldType.byte)) 1 60 D B0 E [.ref p0] h (zoI r) h' := by
  unfold f_J7_getCoder at hf
  refine zMet_of hst (by decide +kernel) rfl rfl (Nat.le_of_ble_eq_true rfl) (fun p e R s m below meth c C0 hno => ?_)
  show zW _ _ _ _ _ _ _ _ _ _ _ _ _ _ _ _ [(0, .ref p0)] []
  exact w_J7_getCoder_b0 C0 hf
def f_J10_length_b0 (E : zE) (p0 : Nat) (h : zH) : Option (Int32 × zH) :=
  (lenA h p0).bind fun x1 =>
  some ((x1 >>> ((1 : Int32) &&& 31)), h)
theorem w_J10_length_b0 (C0 : zCx p l e R s m args below meth c D B0 1 "java/lang/StringUTF16" cJ10_length E 1 60 (Option.some Jvm.ClassFile.FieldType.int) "length") {r : Int32} {h' : zH} {p0 : Nat} {h : zH} (hf : f_J10_length_b0 E p0 h = some (r, h')) : zW p l e R s m args below meth c D B0 1 (zEnd D B0 R below args s (zoI r) h') h 0 [(0, .ref p0)] [] := by
  unfold f_J10_length_b0 at hf
  refine zr_aload_n C0 dJ10_length_0 rfl 0 rfl ?_
  obtain ⟨x1, e2, hf⟩ := zbind hf
  refine zr_alen C0 dJ10_length_1 e2 ?_
  refine zr_iconst C0 (v := 1) dJ10_length_2 (by decide) ?_
  refine zr_ishr C0 dJ10_length_3 ?_
  refine zretW hf ?_
  exact zr_iret C0 (ty := .int) rfl rfl dJ10_length_4 rfl
def f_J10_length (E : zE) (p0 : Nat) (h : zH) : Option (Int32 × zH) := f_J10_length_b0 E p0 h
theorem m_J10_length {l : Launch} (hst : l.stackTraces = false) {D : zD} {B0 : Nat} {E : zE} {p0 : Nat} {h h' : zH} {r : Int32} (hf : f_J10_length E p0 h = some (r, h')) : zMet l yJ10_length (ws_ yJ10_length cJ10_length 1 (Option.some Jvm.ClassFile.FieldType.int)) 1 60 D B0 E [.ref p0] h (zoI r) h' := by
  unfold f_J10_length at hf
  refine zMet_of hst (by decide +kernel) rfl rfl (Nat.le_of_ble_eq_true rfl) (fun p e R s m below meth c C0 hno => ?_)
  show zW _ _ _ _ _ _ _ _ _ _ _ _ _ _ _ _ [(0, .ref p0)] []
  exact w_J10_length_b0 C0 hf
def f_J14_checkFromIndexSize_b15 (E : zE) (p0 : Int32) (p1 : Int32) (p2 : Int32) (p3 : Option Nat) (h : zH) : Option (Int32 × zH) :=
  none
theorem w_J14_checkFromIndexSize_b15 (C0 : zCx p l e R s m args below meth c D B0 4 "jdk/internal/util/Preconditions" cJ14_checkFromIndexSize E 1 60 (Option.some Jvm.ClassFile.FieldType.int) "checkFromIndexSize") {r : Int32} {h' : zH} {p0 : Int32} {p1 : Int32} {p2 : Int32} {p3 : Option Nat} {h : zH} (hf : f_J14_checkFromIndexSize_b15 E p0 p1 p2 p3 h = some (r, h')) : zW p l e R s m args below meth c D B0 4 (zEnd D B0 R below args s (zoI r) h') h 15 [(0, .int p0), (1, .int p1), (2, .int p2), (3, va_rf p3)] [] := by
  unfold f_J14_checkFromIndexSize_b15 at hf
  refine zr_aload_nQ C0 dJ14_checkFromIndexSize_15 rfl 3 rfl ?_
  refine zr_iload_n C0 dJ14_checkFromIndexSize_16 rfl 0 rfl ?_
  refine zr_iload_n C0 dJ14_checkFromIndexSize_17 rfl 1 rfl ?_
  refine zr_iload_n C0 dJ14_checkFromIndexSize_18 rfl 2 rfl ?_
  cases hf
def f_J14_checkFromIndexSize_b0 (E : zE) (p0 : Int32) (p1 : Int32) (p2 : Int32) (p3 : Option Nat) (h : zH) : Option (Int32 × zH) :=
  if ((p2 ||| p0) ||| p1) < 0 then (
    f_J14_checkFromIndexSize_b15 E p0 p1 p2 p3 h
  ) else (
    if p1 ≤ (p2 - p0) then (
      some (p0, h)
    ) else (
      f_J14_checkFromIndexSize_b15 E p0 p1 p2 p3 h
    )
  )
theorem w_J14_checkFromIndexSize_b0 (C0 : zCx p l e R s m args below meth c D B0 4 "jdk/internal/util/Preconditions" cJ14_checkFromIndexSize E 1 60 (Option.some Jvm.ClassFile.FieldType.int) "checkFromIndexSize") {r : Int32} {h' : zH} {p0 : Int32} {p1 : Int32} {p2 : Int32} {p3 : Option Nat} {h : zH} (hf : f_J14_checkFromIndexSize_b0 E p0 p1 p2 p3 h = some (r, h')) : zW p l e R s m args below meth c D B0 4 (zEnd D B0 R below args s (zoI r) h') h 0 [(0, .int p0), (1, .int p1), (2, .int p2), (3, va_rf p3)] [] := by
  unfold f_J14_checkFromIndexSize_b0 at hf
  refine zr_iload_n C0 dJ14_checkFromIndexSize_0 rfl 2 rfl ?_
  refine zr_iload_n C0 dJ14_checkFromIndexSize_1 rfl 0 rfl ?_
  refine zr_ior C0 dJ14_checkFromIndexSize_2 ?_
  refine zr_iload_n C0 dJ14_checkFromIndexSize_3 rfl 1 rfl ?_
  refine zr_ior C0 dJ14_checkFromIndexSize_4 ?_
  refine zr_if_lt C0 (tgt := 15) dJ14_checkFromIndexSize_5 (by decide) (fun c1 => ?_) (fun c1 => ?_)
  · have hf := zif_t c1 hf
    exact w_J14_checkFromIndexSize_b15 C0 hf
  · have hf := zif_f c1 hf
    refine zr_iload_n C0 dJ14_checkFromIndexSize_8 rfl 1 rfl ?_
    refine zr_iload_n C0 dJ14_checkFromIndexSize_9 rfl 2 rfl ?_
    refine zr_iload_n C0 dJ14_checkFromIndexSize_10 rfl 0 rfl ?_
    refine zr_isub C0 dJ14_checkFromIndexSize_11 ?_
    refine zr_icmp_le C0 (tgt := 23) dJ14_checkFromIndexSize_12 (by decide) (fun c2 => ?_) (fun c2 => ?_)
    · have hf := zif_t c2 hf
      refine zr_iload_n C0 dJ14_checkFromIndexSize_23 rfl 0 rfl ?_
      refine zretW hf ?_
      exact zr_iret C0 (ty := .int) rfl rfl dJ14_checkFromIndexSize_24 rfl
    · have hf := zif_f c2 hf
      exact w_J14_checkFromIndexSize_b15 C0 hf
def f_J14_checkFromIndexSize (E : zE) (p0 : Int32) (p1 : Int32) (p2 : Int32) (p3 : Option Nat) (h : zH) : Option (Int32 × zH) := f_J14_checkFromIndexSize_b0 E p0 p1 p2 p3 h
theorem m_J14_checkFromIndexSize {l : Launch} (hst : l.stackTraces = false) {D : zD} {B0 : Nat} {E : zE} {p0 : Int32} {p1 : Int32} {p2 : Int32} {p3 : Option Nat} {h h' : zH} {r : Int32} (hf : f_J14_checkFromIndexSize E p0 p1 p2 p3 h = some (r, h')) : zMet l yJ14_checkFromIndexSize (ws_ yJ14_checkFromIndexSize cJ14_checkFromIndexSize 4 (Option.some Jvm.ClassFile.FieldType.int)) 1 60 D B0 E [.int p0, .int p1, .int p2, va_rf p3] h (zoI r) h' := by
  unfold f_J14_checkFromIndexSize at hf
  refine zMet_of hst (by decide +kernel) rfl rfl (by cases p3 <;> exact Nat.le_of_ble_eq_true rfl) (fun p e R s m below meth c C0 hno => ?_)
  rw [show lv_args 0 [.int p0, .int p1, .int p2, va_rf p3] = [(0, .int p0), (1, .int p1), (2, .int p2), (3, va_rf p3)] from (by cases p3 <;> rfl)]
  exact w_J14_checkFromIndexSize_b0 C0 hf
def f_J9_checkBoundsOffCount_b0 (E : zE) (p0 : Int32) (p1 : Int32) (p2 : Int32) (h : zH) : Option (Int32 × zH) :=
  bnd2 (f_J14_checkFromIndexSize E p0 p1 p2 (E.2.2 10) h) fun x3 h1 =>
  some (x3, h1)
theorem w_J9_checkBoundsOffCount_b0 (C0 : zCx p l e R s m args below meth c D B0 3 "java/lang/String" cJ9_checkBoundsOffCount E 2 83 (Option.some Jvm.ClassFile.FieldType.int) "checkBoundsOffCount") {r : Int32} {h' : zH} {p0 : Int32} {p1 : Int32} {p2 : Int32} {h : zH} (hf : f_J9_checkBoundsOffCount_b0 E p0 p1 p2 h = some (r, h')) : zW p l e R s m args below meth c D B0 3 (zEnd D B0 R below args s (zoI r) h') h 0 [(0, .int p0), (1, .int p1), (2, .int p2)] [] := by
  unfold f_J9_checkBoundsOffCount_b0 at hf
  refine zr_iload_n C0 dJ9_checkBoundsOffCount_0 rfl 0 rfl ?_
  refine zr_iload_n C0 dJ9_checkBoundsOffCount_1 rfl 1 rfl ?_
  refine zr_iload_n C0 dJ9_checkBoundsOffCount_2 rfl 2 rfl ?_
  refine zr_gets C0 (C0.2.2.2.2.2.2.2.2.2.1.2.2.2.2.2.2.2.2.2.2.2.2.2.1 0 _ rfl) q347 dJ9_checkBoundsOffCount_3 ?_
  obtain ⟨x3, h1, e2, hf⟩ := zbind2 hf
  refine zr_callS_r C0 cv_J9_1065 (m_J14_checkFromIndexSize C0.2.2.2.2.2.2.1 e2) (by decide) (by decide) rfl rfl (Nat.le_of_ble_eq_true rfl) dJ9_checkBoundsOffCount_6 rfl ?_
  refine zretW hf ?_
  exact zr_iret C0 (ty := .int) rfl rfl dJ9_checkBoundsOffCount_9 rfl
def f_J9_checkBoundsOffCount (E : zE) (p0 : Int32) (p1 : Int32) (p2 : Int32) (h : zH) : Option (Int32 × zH) := f_J9_checkBoundsOffCount_b0 E p0 p1 p2 h
theorem m_J9_checkBoundsOffCount {l : Launch} (hst : l.stackTraces = false) {D : zD} {B0 : Nat} {E : zE} {p0 : Int32} {p1 : Int32} {p2 : Int32} {h h' : zH} {r : Int32} (hf : f_J9_checkBoundsOffCount E p0 p1 p2 h = some (r, h')) : zMet l yJ9_checkBoundsOffCount (ws_ yJ9_checkBoundsOffCount cJ9_checkBoundsOffCount 3 (Option.some Jvm.ClassFile.FieldType.int)) 2 83 D B0 E [.int p0, .int p1, .int p2] h (zoI r) h' := by
  unfold f_J9_checkBoundsOffCount at hf
  refine zMet_of hst (by decide +kernel) rfl rfl (Nat.le_of_ble_eq_true rfl) (fun p e R s m below meth c C0 hno => ?_)
  show zW _ _ _ _ _ _ _ _ _ _ _ _ _ _ _ _ [(0, .int p0), (1, .int p1), (2, .int p2)] []
  exact w_J9_checkBoundsOffCount_b0 C0 hf
def f_J10_checkBoundsOffCount_b0 (E : zE) (p0 : Int32) (p1 : Int32) (p2 : Nat) (h : zH) : Option (Unit × zH) :=
  bnd2 (f_J10_length E p2 h) fun x3 h1 =>
  bnd2 (f_J9_checkBoundsOffCount E p0 p1 x3 h1) fun x6 h4 =>
  some ((), h4)
theorem w_J10_checkBoundsOffCount_b0 (C0 : zCx p l e R s m args below meth c D B0 3 "java/lang/StringUTF16" cJ10_checkBoundsOffCount E 3 105 (Option.none : Option Jvm.ClassFile.FieldType) "checkBoundsOffCount") {r : Unit} {h' : zH} {p0 : Int32} {p1 : Int32} {p2 : Nat} {h : zH} (hf : f_J10_checkBoundsOffCount_b0 E p0 p1 p2 h = some (r, h')) : zW p l e R s m args below meth c D B0 3 (zEnd D B0 R below args s (zoV r) h') h 0 [(0, .int p0), (1, .int p1), (2, .ref p2)] [] := by
  unfold f_J10_checkBoundsOffCount_b0 at hf
  refine zr_iload_n C0 dJ10_checkBoundsOffCount_0 rfl 0 rfl ?_
  refine zr_iload_n C0 dJ10_checkBoundsOffCount_1 rfl 1 rfl ?_
  refine zr_aload_n C0 dJ10_checkBoundsOffCount_2 rfl 2 rfl ?_
  obtain ⟨x3, h1, e2, hf⟩ := zbind2 hf
  refine zr_callS_r C0 cv_J10_48 (m_J10_length C0.2.2.2.2.2.2.1 e2) (by decide) (by decide) rfl rfl (Nat.le_of_ble_eq_true rfl) dJ10_checkBoundsOffCount_3 rfl ?_
  obtain ⟨x6, h4, e5, hf⟩ := zbind2 hf
  refine zr_callS_r C0 cv_J10_419 (m_J9_checkBoundsOffCount C0.2.2.2.2.2.2.1 e5) (by decide) (by decide) rfl rfl (Nat.le_of_ble_eq_true rfl) dJ10_checkBoundsOffCount_6 rfl ?_
  refine zr_pop C0 dJ10_checkBoundsOffCount_9 rfl ?_
  refine zretW hf ?_
  exact zr_vret C0 rfl dJ10_checkBoundsOffCount_10 rfl
def f_J10_checkBoundsOffCount (E : zE) (p0 : Int32) (p1 : Int32) (p2 : Nat) (h : zH) : Option (Unit × zH) := f_J10_checkBoundsOffCount_b0 E p0 p1 p2 h
theorem m_J10_checkBoundsOffCount {l : Launch} (hst : l.stackTraces = false) {D : zD} {B0 : Nat} {E : zE} {p0 : Int32} {p1 : Int32} {p2 : Nat} {h h' : zH} {r : Unit} (hf : f_J10_checkBoundsOffCount E p0 p1 p2 h = some (r, h')) : zMet l yJ10_checkBoundsOffCount (ws_ yJ10_checkBoundsOffCount cJ10_checkBoundsOffCount 3 (Option.none : Option Jvm.ClassFile.FieldType)) 3 105 D B0 E [.int p0, .int p1, .ref p2] h (zoV r) h' := by
  unfold f_J10_checkBoundsOffCount at hf
  refine zMet_of hst (by decide +kernel) rfl rfl (Nat.le_of_ble_eq_true rfl) (fun p e R s m below meth c C0 hno => ?_)
  show zW _ _ _ _ _ _ _ _ _ _ _ _ _ _ _ _ [(0, .int p0), (1, .int p1), (2, .ref p2)] []
  exact w_J10_checkBoundsOffCount_b0 C0 hf
def f_J10_contentEquals_l8 (E : zE) : Nat → Nat → Nat → Int32 → Int32 → zH → Option (Int32 × zH)
  | 0, _, _, _, _, _ => none
  | n + 1, p0, p1, p2, p3, h =>
    if p2 ≤ p3 then (
      some ((1 : Int32), h)
    ) else (
      (dI h p0 2 p3).bind fun x2 =>
      bnd2 (f_J10_getChar E p1 p3 h) fun x6 h4 =>
      if (((x2 &&& (255 : Int32)).toUInt32 % 65536).toInt32) = x6 then (
        f_J10_contentEquals_l8 E n p0 p1 p2 (p3 + 1) h4
      ) else (
        some ((0 : Int32), h4)
      )
    )
theorem w_J10_contentEquals_l8 (C0 : zCx p l e R s m args below meth c D B0 4 "java/lang/StringUTF16" cJ10_contentEquals E 4 127 (Option.some Jvm.ClassFile.FieldType.boolean) "contentEquals") {r : Int32} {h' : zH} : ∀ (n : Nat) (p0 : Nat) (p1 : Nat) (p2 : Int32) (p3 : Int32) (h : zH), f_J10_contentEquals_l8 E n p0 p1 p2 p3 h = some (r, h') → zW p l e R s m args below meth c D B0 4 (zEnd D B0 R below args s (zoI r) h') h 8 [(0, .ref p0), (1, .ref p1), (2, .int p2), (3, .int p3)] [] := by
  intro n
  induction n with
  | zero =>
    intro p0 p1 p2 p3 h hf
    unfold f_J10_contentEquals_l8 at hf
    cases hf
  | succ n ih =>
    intro p0 p1 p2 p3 h hf
    unfold f_J10_contentEquals_l8 at hf
    refine zr_iload_n C0 dJ10_contentEquals_8 rfl 3 rfl ?_
    refine zr_iload_n C0 dJ10_contentEquals_9 rfl 2 rfl ?_
    refine zr_icmp_ge C0 (tgt := 37) dJ10_contentEquals_10 (by decide) (fun c1 => ?_) (fun c1 => ?_)
    · have hf := zif_t c1 hf
      refine zr_iconst C0 (v := 1) dJ10_contentEquals_37 (by decide) ?_
      refine zretW hf ?_
      exact zr_iret C0 (ty := .boolean) rfl (by decide) dJ10_contentEquals_38 rfl
    · have hf := zif_f c1 hf
      refine zr_aload_n C0 dJ10_contentEquals_13 rfl 0 rfl ?_
      refine zr_iload_n C0 dJ10_contentEquals_14 rfl 3 rfl ?_
      obtain ⟨x2, e3, hf⟩ := zbind hf
      refine zr_bald C0 dJ10_contentEquals_15 e3 ?_
      refine zr_sipush C0 (v := 255) dJ10_contentEquals_16 (by decide) ?_
      refine zr_iand C0 dJ10_contentEquals_19 ?_
      refine zr_i2c C0 dJ10_contentEquals_20 ?_
      refine zr_aload_n C0 dJ10_contentEquals_21 rfl 1 rfl ?_
      refine zr_iload_n C0 dJ10_contentEquals_22 rfl 3 rfl ?_
      obtain ⟨x6, h4, e5, hf⟩ := zbind2 hf
      refine zr_callS_r C0 cv_J10_71 (m_J10_getChar C0.2.2.2.2.2.2.1 e5) (by decide) (by decide) rfl rfl (Nat.le_of_ble_eq_true rfl) dJ10_contentEquals_23 rfl ?_
      refine zr_icmp_eq C0 (tgt := 31) dJ10_contentEquals_26 (by decide) (fun c7 => ?_) (fun c7 => ?_)
      · have hf := zif_t c7 hf
        refine zr_iinc (lv' := [(3, .int (p3 + 1)), (0, .ref p0), (1, .ref p1), (2, .int p2)]) C0 dJ10_contentEquals_31 3 rfl rfl (by decide) (by first | rfl | simp [zst1, zst2, zcat_rf]) ?_
        refine zr_goto C0 (tgt := 8) dJ10_contentEquals_34 (by decide) ?_
        refine zr_sub [1, 2, 3, 0] rfl ?_
        exact ih _ _ _ _ _ hf
      · have hf := zif_f c7 hf
        refine zr_iconst C0 (v := 0) dJ10_contentEquals_29 (by decide) ?_
        refine zretW hf ?_
        exact zr_iret C0 (ty := .boolean) rfl (by decide) dJ10_contentEquals_30 rfl
def f_J10_contentEquals_b0 (E : zE) (p0 : Nat) (p1 : Nat) (p2 : Int32) (h : zH) : Option (Int32 × zH) :=
  bnd2 (f_J10_checkBoundsOffCount E (0 : Int32) p2 p1 h) fun x3 h1 =>
  f_J10_contentEquals_l8 E E.1 p0 p1 p2 (0 : Int32) h1
theorem w_J10_contentEquals_b0 (C0 : zCx p l e R s m args below meth c D B0 4 "java/lang/StringUTF16" cJ10_contentEquals E 4 127 (Option.some Jvm.ClassFile.FieldType.boolean) "contentEquals") {r : Int32} {h' : zH} {p0 : Nat} {p1 : Nat} {p2 : Int32} {h : zH} (hf : f_J10_contentEquals_b0 E p0 p1 p2 h = some (r, h')) : zW p l e R s m args below meth c D B0 4 (zEnd D B0 R below args s (zoI r) h') h 0 [(0, .ref p0), (1, .ref p1), (2, .int p2)] [] := by
  unfold f_J10_contentEquals_b0 at hf
  refine zr_iconst C0 (v := 0) dJ10_contentEquals_0 (by decide) ?_
  refine zr_iload_n C0 dJ10_contentEquals_1 rfl 2 rfl ?_
  refine zr_aload_n C0 dJ10_contentEquals_2 rfl 1 rfl ?_
  obtain ⟨x3, h1, e2, hf⟩ := zbind2 hf
  refine zr_callS_r C0 cv_J10_173 (m_J10_checkBoundsOffCount C0.2.2.2.2.2.2.1 e2) (by decide) (by decide) rfl rfl (Nat.le_of_ble_eq_true rfl) dJ10_contentEquals_3 rfl ?_
  refine zr_iconst C0 (v := 0) dJ10_contentEquals_6 (by decide) ?_
  refine zr_istore_n (i := 3) (lv' := [(3, .int (0 : Int32)), (0, .ref p0), (1, .ref p1), (2, .int p2)]) C0 dJ10_contentEquals_7 rfl (by decide) (by first | rfl | simp [zst1, zst2, zcat_rf]) ?_
  refine zr_sub [1, 2, 3, 0] rfl ?_
  exact w_J10_contentEquals_l8 C0 _ _ _ _ _ _ hf
def f_J10_contentEquals (E : zE) (p0 : Nat) (p1 : Nat) (p2 : Int32) (h : zH) : Option (Int32 × zH) := f_J10_contentEquals_b0 E p0 p1 p2 h
theorem m_J10_contentEquals {l : Launch} (hst : l.stackTraces = false) {D : zD} {B0 : Nat} {E : zE} {p0 : Nat} {p1 : Nat} {p2 : Int32} {h h' : zH} {r : Int32} (hf : f_J10_contentEquals E p0 p1 p2 h = some (r, h')) : zMet l yJ10_contentEquals (ws_ yJ10_contentEquals cJ10_contentEquals 4 (Option.some Jvm.ClassFile.FieldType.boolean)) 4 127 D B0 E [.ref p0, .ref p1, .int p2] h (zoI r) h' := by
  unfold f_J10_contentEquals at hf
  refine zMet_of hst (by decide +kernel) rfl rfl (Nat.le_of_ble_eq_true rfl) (fun p e R s m below meth c C0 hno => ?_)
  show zW _ _ _ _ _ _ _ _ _ _ _ _ _ _ _ _ [(0, .ref p0), (1, .ref p1), (2, .int p2)] []
  exact w_J10_contentEquals_b0 C0 hf
def f_J23_getIntUnaligned_b0 (E : zE) (p0 : Nat) (p1 : Nat) (p2 : Int64) (h : zH) : Option (Int32 × zH) :=
  if (p2 &&& (3 : Int64)) = (0 : Int64) then (
    none
  ) else (
    if (p2 &&& (1 : Int64)) = (0 : Int64) then (
      none
    ) else (
      none
    )
  )
theorem w_J23_getIntUnaligned_b0 (C0 : zCx p l e R s m args below meth c D B0 4 "jdk/internal/misc/Unsafe" cJ23_getIntUnaligned E 1 60 (Option.some Jvm.ClassFile.FieldType.int) "getIntUnaligned") {r : Int32} {h' : zH} {p0 : Nat} {p1 : Nat} {p2 : Int64} {h : zH} (hf : f_J23_getIntUnaligned_b0 E p0 p1 p2 h = some (r, h')) : zW p l e R s m args below meth c D B0 4 (zEnd D B0 R below args s (zoI r) h') h 0 [(0, .ref p0), (1, .ref p1), (2, .long p2)] [] := by
  unfold f_J23_getIntUnaligned_b0 at hf
  refine zr_lload_n C0 dJ23_getIntUnaligned_0 rfl 2 rfl ?_
  refine zr_ldc2 C0 (v := 3) q1186 dJ23_getIntUnaligned_1 ?_
  refine zr_land C0 dJ23_getIntUnaligned_4 ?_
  refine zr_lconst C0 (v := 0) dJ23_getIntUnaligned_5 (by decide) ?_
  refine zr_lcmp C0 dJ23_getIntUnaligned_6 ?_
  refine zr_if_ne C0 (tgt := 17) dJ23_getIntUnaligned_7 (by decide) (fun c1 => ?_) (fun c1 => ?_)
  · have hf := zif_f (zl_ne.mp c1) hf
    refine zr_lload_n C0 dJ23_getIntUnaligned_17 rfl 2 rfl ?_
    refine zr_lconst C0 (v := 1) dJ23_getIntUnaligned_18 (by decide) ?_
    refine zr_land C0 dJ23_getIntUnaligned_19 ?_
    refine zr_lconst C0 (v := 0) dJ23_getIntUnaligned_20 (by decide) ?_
    refine zr_lcmp C0 dJ23_getIntUnaligned_21 ?_
    refine zr_if_ne C0 (tgt := 45) dJ23_getIntUnaligned_22 (by decide) (fun c2 => ?_) (fun c2 => ?_)
    · have hf := zif_f (zl_ne.mp c2) hf
      refine zr_aload_n C0 dJ23_getIntUnaligned_45 rfl 0 rfl ?_
      refine zr_aload_n C0 dJ23_getIntUnaligned_46 rfl 1 rfl ?_
      refine zr_lload_n C0 dJ23_getIntUnaligned_47 rfl 2 rfl ?_
      cases hf
    · have hf := zif_t (zl_nen.mp c2) hf
      refine zr_aload_n C0 dJ23_getIntUnaligned_25 rfl 0 rfl ?_
      refine zr_aload_n C0 dJ23_getIntUnaligned_26 rfl 1 rfl ?_
      refine zr_lload_n C0 dJ23_getIntUnaligned_27 rfl 2 rfl ?_
      cases hf
  · have hf := zif_t (zl_nen.mp c1) hf
    refine zr_aload_n C0 dJ23_getIntUnaligned_10 rfl 0 rfl ?_
    refine zr_aload_n C0 dJ23_getIntUnaligned_11 rfl 1 rfl ?_
    refine zr_lload_n C0 dJ23_getIntUnaligned_12 rfl 2 rfl ?_
    cases hf
def f_J23_getIntUnaligned (E : zE) (p0 : Nat) (p1 : Nat) (p2 : Int64) (h : zH) : Option (Int32 × zH) := f_J23_getIntUnaligned_b0 E p0 p1 p2 h
theorem m_J23_getIntUnaligned {l : Launch} (hst : l.stackTraces = false) {D : zD} {B0 : Nat} {E : zE} {p0 : Nat} {p1 : Nat} {p2 : Int64} {h h' : zH} {r : Int32} (hf : f_J23_getIntUnaligned E p0 p1 p2 h = some (r, h')) : zMet l yJ23_getIntUnaligned (ws_ yJ23_getIntUnaligned cJ23_getIntUnaligned 4 (Option.some Jvm.ClassFile.FieldType.int)) 1 60 D B0 E [.ref p0, .ref p1, .long p2] h (zoI r) h' := by
  unfold f_J23_getIntUnaligned at hf
  refine zMet_ofF hst (by decide +kernel) rfl rfl (Nat.le_of_ble_eq_true rfl) (fun p e R s m below meth c C0 hno => ?_)
  show zW _ _ _ _ _ _ _ _ _ _ _ _ _ _ _ _ [(0, .ref p0), (1, .ref p1), (2, .long p2)] []
  exact w_J23_getIntUnaligned_b0 C0 hf
def f_J16_numberOfTrailingZeros_b74 (E : zE) (p0 : Int32) (p1 : Int32) (h : zH) : Option (Int32 × zH) :=
  some ((p1 + ((p0.toUInt32 >>> ((1 : Int32).toUInt32 &&& Int32.toUInt32 31)).toInt32)), h)
theorem w_J16_numberOfTrailingZeros_b74 (C0 : zCx p l e R s m args below meth c D B0 2 "java/lang/Integer" cJ16_numberOfTrailingZeros E 1 60 (Option.some Jvm.ClassFile.FieldType.int) "numberOfTrailingZeros") {r : Int32} {h' : zH} {p0 : Int32} {p1 : Int32} {h : zH} (hf : f_J16_numberOfTrailingZeros_b74 E p0 p1 h = some (r, h')) : zW p l e R s m args below meth c D B0 2 (zEnd D B0 R below args s (zoI r) h') h 74 [(0, .int p0), (1, .int p1)] [] := by
  unfold f_J16_numberOfTrailingZeros_b74 at hf
  refine zr_iload_n C0 dJ16_numberOfTrailingZeros_74 rfl 1 rfl ?_
  refine zr_iload_n C0 dJ16_numberOfTrailingZeros_75 rfl 0 rfl ?_
  refine zr_iconst C0 (v := 1) dJ16_numberOfTrailingZeros_76 (by decide) ?_
  refine zr_iushr C0 dJ16_numberOfTrailingZeros_77 ?_
  refine zr_iadd C0 dJ16_numberOfTrailingZeros_78 ?_
  refine zretW hf ?_
  exact zr_iret C0 (ty := .int) rfl rfl dJ16_numberOfTrailingZeros_79 rfl
def f_J16_numberOfTrailingZeros_b62 (E : zE) (p0 : Int32) (p1 : Int32) (h : zH) : Option (Int32 × zH) :=
  if p0 ≤ (4 : Int32) then (
    f_J16_numberOfTrailingZeros_b74 E p0 p1 h
  ) else (
    f_J16_numberOfTrailingZeros_b74 E ((p0.toUInt32 >>> ((2 : Int32).toUInt32 &&& Int32.toUInt32 31)).toInt32) (p1 + 2) h
  )
theorem w_J16_numberOfTrailingZeros_b62 (C0 : zCx p l e R s m args below meth c D B0 2 "java/lang/Integer" cJ16_numberOfTrailingZeros E 1 60 (Option.some Jvm.ClassFile.FieldType.int) "numberOfTrailingZeros") {r : Int32} {h' : zH} {p0 : Int32} {p1 : Int32} {h : zH} (hf : f_J16_numberOfTrailingZeros_b62 E p0 p1 h = some (r, h')) : zW p l e R s m args below meth c D B0 2 (zEnd D B0 R below args s (zoI r) h') h 62 [(0, .int p0), (1, .int p1)] [] := by
  unfold f_J16_numberOfTrailingZeros_b62 at hf
  refine zr_iload_n C0 dJ16_numberOfTrailingZeros_62 rfl 0 rfl ?_
  refine zr_iconst C0 (v := 4) dJ16_numberOfTrailingZeros_63 (by decide) ?_
  refine zr_icmp_le C0 (tgt := 74) dJ16_numberOfTrailingZeros_64 (by decide) (fun c1 => ?_) (fun c1 => ?_)
  · have hf := zif_t c1 hf
    exact w_J16_numberOfTrailingZeros_b74 C0 hf
  · have hf := zif_f c1 hf
    refine zr_iinc (lv' := [(1, .int (p1 + 2)), (0, .int p0)]) C0 dJ16_numberOfTrailingZeros_67 1 rfl rfl (by decide) (by first | rfl | simp [zst1, zst2, zcat_rf]) ?_
    refine zr_iload_n C0 dJ16_numberOfTrailingZeros_70 rfl 1 rfl ?_
    refine zr_iconst C0 (v := 2) dJ16_numberOfTrailingZeros_71 (by decide) ?_
    refine zr_iushr C0 dJ16_numberOfTrailingZeros_72 ?_
    refine zr_istore_n (i := 0) (lv' := [(0, .int ((p0.toUInt32 >>> ((2 : Int32).toUInt32 &&& Int32.toUInt32 31)).toInt32)), (1, .int (p1 + 2))]) C0 dJ16_numberOfTrailingZeros_73 rfl (by decide) (by first | rfl | simp [zst1, zst2, zcat_rf]) ?_
    exact w_J16_numberOfTrailingZeros_b74 C0 hf
def f_J16_numberOfTrailingZeros_b49 (E : zE) (p0 : Int32) (p1 : Int32) (h : zH) : Option (Int32 × zH) :=
  if p0 ≤ (16 : Int32) then (
    f_J16_numberOfTrailingZeros_b62 E p0 p1 h
  ) else (
    f_J16_numberOfTrailingZeros_b62 E ((p0.toUInt32 >>> ((4 : Int32).toUInt32 &&& Int32.toUInt32 31)).toInt32) (p1 + 4) h
  )
theorem w_J16_numberOfTrailingZeros_b49 (C0 : zCx p l e R s m args below meth c D B0 2 "java/lang/Integer" cJ16_numberOfTrailingZeros E 1 60 (Option.some Jvm.ClassFile.FieldType.int) "numberOfTrailingZeros") {r : Int32} {h' : zH} {p0 : Int32} {p1 : Int32} {h : zH} (hf : f_J16_numberOfTrailingZeros_b49 E p0 p1 h = some (r, h')) : zW p l e R s m args below meth c D B0 2 (zEnd D B0 R below args s (zoI r) h') h 49 [(0, .int p0), (1, .int p1)] [] := by
  unfold f_J16_numberOfTrailingZeros_b49 at hf
  refine zr_iload_n C0 dJ16_numberOfTrailingZeros_49 rfl 0 rfl ?_
  refine zr_bipush C0 (v := 16) dJ16_numberOfTrailingZeros_50 (by decide) ?_
  refine zr_icmp_le C0 (tgt := 62) dJ16_numberOfTrailingZeros_52 (by decide) (fun c1 => ?_) (fun c1 => ?_)
  · have hf := zif_t c1 hf
    exact w_J16_numberOfTrailingZeros_b62 C0 hf
  · have hf := zif_f c1 hf
    refine zr_iinc (lv' := [(1, .int (p1 + 4)), (0, .int p0)]) C0 dJ16_numberOfTrailingZeros_55 1 rfl rfl (by decide) (by first | rfl | simp [zst1, zst2, zcat_rf]) ?_
    refine zr_iload_n C0 dJ16_numberOfTrailingZeros_58 rfl 1 rfl ?_
    refine zr_iconst C0 (v := 4) dJ16_numberOfTrailingZeros_59 (by decide) ?_
    refine zr_iushr C0 dJ16_numberOfTrailingZeros_60 ?_
    refine zr_istore_n (i := 0) (lv' := [(0, .int ((p0.toUInt32 >>> ((4 : Int32).toUInt32 &&& Int32.toUInt32 31)).toInt32)), (1, .int (p1 + 4))]) C0 dJ16_numberOfTrailingZeros_61 rfl (by decide) (by first | rfl | simp [zst1, zst2, zcat_rf]) ?_
    exact w_J16_numberOfTrailingZeros_b62 C0 hf
def f_J16_numberOfTrailingZeros_b34 (E : zE) (p0 : Int32) (p1 : Int32) (h : zH) : Option (Int32 × zH) :=
  if p0 ≤ (256 : Int32) then (
    f_J16_numberOfTrailingZeros_b49 E p0 p1 h
  ) else (
    f_J16_numberOfTrailingZeros_b49 E ((p0.toUInt32 >>> ((8 : Int32).toUInt32 &&& Int32.toUInt32 31)).toInt32) (p1 + 8) h
  )
theorem w_J16_numberOfTrailingZeros_b34 (C0 : zCx p l e R s m args below meth c D B0 2 "java/lang/Integer" cJ16_numberOfTrailingZeros E 1 60 (Option.some Jvm.ClassFile.FieldType.int) "numberOfTrailingZeros") {r : Int32} {h' : zH} {p0 : Int32} {p1 : Int32} {h : zH} (hf : f_J16_numberOfTrailingZeros_b34 E p0 p1 h = some (r, h')) : zW p l e R s m args below meth c D B0 2 (zEnd D B0 R below args s (zoI r) h') h 34 [(0, .int p0), (1, .int p1)] [] := by
  unfold f_J16_numberOfTrailingZeros_b34 at hf
  refine zr_iload_n C0 dJ16_numberOfTrailingZeros_34 rfl 0 rfl ?_
  refine zr_sipush C0 (v := 256) dJ16_numberOfTrailingZeros_35 (by decide) ?_
  refine zr_icmp_le C0 (tgt := 49) dJ16_numberOfTrailingZeros_38 (by decide) (fun c1 => ?_) (fun c1 => ?_)
  · have hf := zif_t c1 hf
    exact w_J16_numberOfTrailingZeros_b49 C0 hf
  · have hf := zif_f c1 hf
    refine zr_iinc (lv' := [(1, .int (p1 + 8)), (0, .int p0)]) C0 dJ16_numberOfTrailingZeros_41 1 rfl rfl (by decide) (by first | rfl | simp [zst1, zst2, zcat_rf]) ?_
    refine zr_iload_n C0 dJ16_numberOfTrailingZeros_44 rfl 1 rfl ?_
    refine zr_bipush C0 (v := 8) dJ16_numberOfTrailingZeros_45 (by decide) ?_
    refine zr_iushr C0 dJ16_numberOfTrailingZeros_47 ?_
    refine zr_istore_n (i := 0) (lv' := [(0, .int ((p0.toUInt32 >>> ((8 : Int32).toUInt32 &&& Int32.toUInt32 31)).toInt32)), (1, .int (p1 + 8))]) C0 dJ16_numberOfTrailingZeros_48 rfl (by decide) (by first | rfl | simp [zst1, zst2, zcat_rf]) ?_
    exact w_J16_numberOfTrailingZeros_b49 C0 hf
def f_J16_numberOfTrailingZeros_b0 (E : zE) (p0 : Int32) (h : zH) : Option (Int32 × zH) :=
  if 0 < ((p0 ^^^ (-1 : Int32)) &&& (p0 - (1 : Int32))) then (
    if ((p0 ^^^ (-1 : Int32)) &&& (p0 - (1 : Int32))) ≤ (65536 : Int32) then (
      f_J16_numberOfTrailingZeros_b34 E ((p0 ^^^ (-1 : Int32)) &&& (p0 - (1 : Int32))) (1 : Int32) h
    ) else (
      f_J16_numberOfTrailingZeros_b34 E ((((p0 ^^^ (-1 : Int32)) &&& (p0 - (1 : Int32))).toUInt32 >>> ((16 : Int32).toUInt32 &&& Int32.toUInt32 31)).toInt32) ((1 : Int32) + 16) h
    )
  ) else (
    some ((((p0 ^^^ (-1 : Int32)) &&& (p0 - (1 : Int32))) &&& (32 : Int32)), h)
  )
theorem w_J16_numberOfTrailingZeros_b0 (C0 : zCx p l e R s m args below meth c D B0 2 "java/lang/Integer" cJ16_numberOfTrailingZeros E 1 60 (Option.some Jvm.ClassFile.FieldType.int) "numberOfTrailingZeros") {r : Int32} {h' : zH} {p0 : Int32} {h : zH} (hf : f_J16_numberOfTrailingZeros_b0 E p0 h = some (r, h')) : zW p l e R s m args below meth c D B0 2 (zEnd D B0 R below args s (zoI r) h') h 0 [(0, .int p0)] [] := by
  unfold f_J16_numberOfTrailingZeros_b0 at hf
  refine zr_iload_n C0 dJ16_numberOfTrailingZeros_0 rfl 0 rfl ?_
  refine zr_iconst C0 (v := -1) dJ16_numberOfTrailingZeros_1 (by decide) ?_
  refine zr_ixor C0 dJ16_numberOfTrailingZeros_2 ?_
  refine zr_iload_n C0 dJ16_numberOfTrailingZeros_3 rfl 0 rfl ?_
  refine zr_iconst C0 (v := 1) dJ16_numberOfTrailingZeros_4 (by decide) ?_
  refine zr_isub C0 dJ16_numberOfTrailingZeros_5 ?_
  refine zr_iand C0 dJ16_numberOfTrailingZeros_6 ?_
  refine zr_istore_n (i := 0) (lv' := [(0, .int ((p0 ^^^ (-1 : Int32)) &&& (p0 - (1 : Int32))))]) C0 dJ16_numberOfTrailingZeros_7 rfl (by decide) (by first | rfl | simp [zst1, zst2, zcat_rf]) ?_
  refine zr_iload_n C0 dJ16_numberOfTrailingZeros_8 rfl 0 rfl ?_
  refine zr_if_gt C0 (tgt := 17) dJ16_numberOfTrailingZeros_9 (by decide) (fun c1 => ?_) (fun c1 => ?_)
  · have hf := zif_t c1 hf
    refine zr_iconst C0 (v := 1) dJ16_numberOfTrailingZeros_17 (by decide) ?_
    refine zr_istore_n (i := 1) (lv' := [(1, .int (1 : Int32)), (0, .int ((p0 ^^^ (-1 : Int32)) &&& (p0 - (1 : Int32))))]) C0 dJ16_numberOfTrailingZeros_18 rfl (by decide) (by first | rfl | simp [zst1, zst2, zcat_rf]) ?_
    refine zr_iload_n C0 dJ16_numberOfTrailingZeros_19 rfl 1 rfl ?_
    refine zr_ldcw C0 (v := 65536) q1237 dJ16_numberOfTrailingZeros_20 ?_
    refine zr_icmp_le C0 (tgt := 34) dJ16_numberOfTrailingZeros_23 (by decide) (fun c2 => ?_) (fun c2 => ?_)
    · have hf := zif_t c2 hf
      refine zr_sub [1, 0] rfl ?_
      exact w_J16_numberOfTrailingZeros_b34 C0 hf
    · have hf := zif_f c2 hf
      refine zr_iinc (lv' := [(1, .int ((1 : Int32) + 16)), (0, .int ((p0 ^^^ (-1 : Int32)) &&& (p0 - (1 : Int32))))]) C0 dJ16_numberOfTrailingZeros_26 0 rfl rfl (by decide) (by first | rfl | simp [zst1, zst2, zcat_rf]) ?_
      refine zr_iload_n C0 dJ16_numberOfTrailingZeros_29 rfl 1 rfl ?_
      refine zr_bipush C0 (v := 16) dJ16_numberOfTrailingZeros_30 (by decide) ?_
      refine zr_iushr C0 dJ16_numberOfTrailingZeros_32 ?_
      refine zr_istore_n (i := 0) (lv' := [(0, .int ((((p0 ^^^ (-1 : Int32)) &&& (p0 - (1 : Int32))).toUInt32 >>> ((16 : Int32).toUInt32 &&& Int32.toUInt32 31)).toInt32)), (1, .int ((1 : Int32) + 16))]) C0 dJ16_numberOfTrailingZeros_33 rfl (by decide) (by first | rfl | simp [zst1, zst2, zcat_rf]) ?_
      exact w_J16_numberOfTrailingZeros_b34 C0 hf
  · have hf := zif_f c1 hf
    refine zr_iload_n C0 dJ16_numberOfTrailingZeros_12 rfl 0 rfl ?_
    refine zr_bipush C0 (v := 32) dJ16_numberOfTrailingZeros_13 (by decide) ?_
    refine zr_iand C0 dJ16_numberOfTrailingZeros_15 ?_
    refine zretW hf ?_
    exact zr_iret C0 (ty := .int) rfl rfl dJ16_numberOfTrailingZeros_16 rfl
def f_J16_numberOfTrailingZeros (E : zE) (p0 : Int32) (h : zH) : Option (Int32 × zH) := f_J16_numberOfTrailingZeros_b0 E p0 h
theorem m_J16_numberOfTrailingZeros {l : Launch} (hst : l.stackTraces = false) {D : zD} {B0 : Nat} {E : zE} {p0 : Int32} {h h' : zH} {r : Int32} (hf : f_J16_numberOfTrailingZeros E p0 h = some (r, h')) : zMet l yJ16_numberOfTrailingZeros (ws_ yJ16_numberOfTrailingZeros cJ16_numberOfTrailingZeros 2 (Option.some Jvm.ClassFile.FieldType.int)) 1 60 D B0 E [.int p0] h (zoI r) h' := by
  unfold f_J16_numberOfTrailingZeros at hf
  refine zMet_of hst (by decide +kernel) rfl rfl (Nat.le_of_ble_eq_true rfl) (fun p e R s m below meth c C0 hno => ?_)
  show zW _ _ _ _ _ _ _ _ _ _ _ _ _ _ _ _ [(0, .int p0)] []
  exact w_J16_numberOfTrailingZeros_b0 C0 hf
def f_J16_numberOfLeadingZeros_b73 (E : zE) (p0 : Int32) (p1 : Int32) (h : zH) : Option (Int32 × zH) :=
  some ((p1 - ((p0.toUInt32 >>> ((1 : Int32).toUInt32 &&& Int32.toUInt32 31)).toInt32)), h)
theorem w_J16_numberOfLeadingZeros_b73 (C0 : zCx p l e R s m args below meth c D B0 2 "java/lang/Integer" cJ16_numberOfLeadingZeros E 1 60 (Option.some Jvm.ClassFile.FieldType.int) "numberOfLeadingZeros") {r : Int32} {h' : zH} {p0 : Int32} {p1 : Int32} {h : zH} (hf : f_J16_numberOfLeadingZeros_b73 E p0 p1 h = some (r, h')) : zW p l e R s m args below meth c D B0 2 (zEnd D B0 R below args s (zoI r) h') h 73 [(0, .int p0), (1, .int p1)] [] := by
  unfold f_J16_numberOfLeadingZeros_b73 at hf
  refine zr_iload_n C0 dJ16_numberOfLeadingZeros_73 rfl 1 rfl ?_
  refine zr_iload_n C0 dJ16_numberOfLeadingZeros_74 rfl 0 rfl ?_
  refine zr_iconst C0 (v := 1) dJ16_numberOfLeadingZeros_75 (by decide) ?_
  refine zr_iushr C0 dJ16_numberOfLeadingZeros_76 ?_
  refine zr_isub C0 dJ16_numberOfLeadingZeros_77 ?_
  refine zretW hf ?_
  exact zr_iret C0 (ty := .int) rfl rfl dJ16_numberOfLeadingZeros_78 rfl
def f_J16_numberOfLeadingZeros_b61 (E : zE) (p0 : Int32) (p1 : Int32) (h : zH) : Option (Int32 × zH) :=
  if p0 < (4 : Int32) then (
    f_J16_numberOfLeadingZeros_b73 E p0 p1 h
  ) else (
    f_J16_numberOfLeadingZeros_b73 E ((p0.toUInt32 >>> ((2 : Int32).toUInt32 &&& Int32.toUInt32 31)).toInt32) (p1 + (-2)) h
  )
theorem w_J16_numberOfLeadingZeros_b61 (C0 : zCx p l e R s m args below meth c D B0 2 "java/lang/Integer" cJ16_numberOfLeadingZeros E 1 60 (Option.some Jvm.ClassFile.FieldType.int) "numberOfLeadingZeros") {r : Int32} {h' : zH} {p0 : Int32} {p1 : Int32} {h : zH} (hf : f_J16_numberOfLeadingZeros_b61 E p0 p1 h = some (r, h')) : zW p l e R s m args below meth c D B0 2 (zEnd D B0 R below args s (zoI r) h') h 61 [(0, .int p0), (1, .int p1)] [] := by
  unfold f_J16_numberOfLeadingZeros_b61 at hf
  refine zr_iload_n C0 dJ16_numberOfLeadingZeros_61 rfl 0 rfl ?_
  refine zr_iconst C0 (v := 4) dJ16_numberOfLeadingZeros_62 (by decide) ?_
  refine zr_icmp_lt C0 (tgt := 73) dJ16_numberOfLeadingZeros_63 (by decide) (fun c1 => ?_) (fun c1 => ?_)
  · have hf := zif_t c1 hf
    exact w_J16_numberOfLeadingZeros_b73 C0 hf
  · have hf := zif_f c1 hf
    refine zr_iinc (lv' := [(1, .int (p1 + (-2))), (0, .int p0)]) C0 dJ16_numberOfLeadingZeros_66 1 rfl rfl (by decide) (by first | rfl | simp [zst1, zst2, zcat_rf]) ?_
    refine zr_iload_n C0 dJ16_numberOfLeadingZeros_69 rfl 1 rfl ?_
    refine zr_iconst C0 (v := 2) dJ16_numberOfLeadingZeros_70 (by decide) ?_
    refine zr_iushr C0 dJ16_numberOfLeadingZeros_71 ?_
    refine zr_istore_n (i := 0) (lv' := [(0, .int ((p0.toUInt32 >>> ((2 : Int32).toUInt32 &&& Int32.toUInt32 31)).toInt32)), (1, .int (p1 + (-2)))]) C0 dJ16_numberOfLeadingZeros_72 rfl (by decide) (by first | rfl | simp [zst1, zst2, zcat_rf]) ?_
    exact w_J16_numberOfLeadingZeros_b73 C0 hf
def f_J16_numberOfLeadingZeros_b48 (E : zE) (p0 : Int32) (p1 : Int32) (h : zH) : Option (Int32 × zH) :=
  if p0 < (16 : Int32) then (
    f_J16_numberOfLeadingZeros_b61 E p0 p1 h
  ) else (
    f_J16_numberOfLeadingZeros_b61 E ((p0.toUInt32 >>> ((4 : Int32).toUInt32 &&& Int32.toUInt32 31)).toInt32) (p1 + (-4)) h
  )
theorem w_J16_numberOfLeadingZeros_b48 (C0 : zCx p l e R s m args below meth c D B0 2 "java/lang/Integer" cJ16_numberOfLeadingZeros E 1 60 (Option.some Jvm.ClassFile.FieldType.int) "numberOfLeadingZeros") {r : Int32} {h' : zH} {p0 : Int32} {p1 : Int32} {h : zH} (hf : f_J16_numberOfLeadingZeros_b48 E p0 p1 h = some (r, h')) : zW p l e R s m args below meth c D B0 2 (zEnd D B0 R below args s (zoI r) h') h 48 [(0, .int p0), (1, .int p1)] [] := by
  unfold f_J16_numberOfLeadingZeros_b48 at hf
  refine zr_iload_n C0 dJ16_numberOfLeadingZeros_48 rfl 0 rfl ?_
  refine zr_bipush C0 (v := 16) dJ16_numberOfLeadingZeros_49 (by decide) ?_
  refine zr_icmp_lt C0 (tgt := 61) dJ16_numberOfLeadingZeros_51 (by decide) (fun c1 => ?_) (fun c1 => ?_)
  · have hf := zif_t c1 hf
    exact w_J16_numberOfLeadingZeros_b61 C0 hf
  · have hf := zif_f c1 hf
    refine zr_iinc (lv' := [(1, .int (p1 + (-4))), (0, .int p0)]) C0 dJ16_numberOfLeadingZeros_54 1 rfl rfl (by decide) (by first | rfl | simp [zst1, zst2, zcat_rf]) ?_
    refine zr_iload_n C0 dJ16_numberOfLeadingZeros_57 rfl 1 rfl ?_
    refine zr_iconst C0 (v := 4) dJ16_numberOfLeadingZeros_58 (by decide) ?_
    refine zr_iushr C0 dJ16_numberOfLeadingZeros_59 ?_
    refine zr_istore_n (i := 0) (lv' := [(0, .int ((p0.toUInt32 >>> ((4 : Int32).toUInt32 &&& Int32.toUInt32 31)).toInt32)), (1, .int (p1 + (-4)))]) C0 dJ16_numberOfLeadingZeros_60 rfl (by decide) (by first | rfl | simp [zst1, zst2, zcat_rf]) ?_
    exact w_J16_numberOfLeadingZeros_b61 C0 hf
def f_J16_numberOfLeadingZeros_b33 (E : zE) (p0 : Int32) (p1 : Int32) (h : zH) : Option (Int32 × zH) :=
  if p0 < (256 : Int32) then (
    f_J16_numberOfLeadingZeros_b48 E p0 p1 h
  ) else (
    f_J16_numberOfLeadingZeros_b48 E ((p0.toUInt32 >>> ((8 : Int32).toUInt32 &&& Int32.toUInt32 31)).toInt32) (p1 + (-8)) h
  )
theorem w_J16_numberOfLeadingZeros_b33 (C0 : zCx p l e R s m args below meth c D B0 2 "java/lang/Integer" cJ16_numberOfLeadingZeros E 1 60 (Option.some Jvm.ClassFile.FieldType.int) "numberOfLeadingZeros") {r : Int32} {h' : zH} {p0 : Int32} {p1 : Int32} {h : zH} (hf : f_J16_numberOfLeadingZeros_b33 E p0 p1 h = some (r, h')) : zW p l e R s m args below meth c D B0 2 (zEnd D B0 R below args s (zoI r) h') h 33 [(0, .int p0), (1, .int p1)] [] := by
  unfold f_J16_numberOfLeadingZeros_b33 at hf
  refine zr_iload_n C0 dJ16_numberOfLeadingZeros_33 rfl 0 rfl ?_
  refine zr_sipush C0 (v := 256) dJ16_numberOfLeadingZeros_34 (by decide) ?_
  refine zr_icmp_lt C0 (tgt := 48) dJ16_numberOfLeadingZeros_37 (by decide) (fun c1 => ?_) (fun c1 => ?_)
  · have hf := zif_t c1 hf
    exact w_J16_numberOfLeadingZeros_b48 C0 hf
  · have hf := zif_f c1 hf
    refine zr_iinc (lv' := [(1, .int (p1 + (-8))), (0, .int p0)]) C0 dJ16_numberOfLeadingZeros_40 1 rfl rfl (by decide) (by first | rfl | simp [zst1, zst2, zcat_rf]) ?_
    refine zr_iload_n C0 dJ16_numberOfLeadingZeros_43 rfl 1 rfl ?_
    refine zr_bipush C0 (v := 8) dJ16_numberOfLeadingZeros_44 (by decide) ?_
    refine zr_iushr C0 dJ16_numberOfLeadingZeros_46 ?_
    refine zr_istore_n (i := 0) (lv' := [(0, .int ((p0.toUInt32 >>> ((8 : Int32).toUInt32 &&& Int32.toUInt32 31)).toInt32)), (1, .int (p1 + (-8)))]) C0 dJ16_numberOfLeadingZeros_47 rfl (by decide) (by first | rfl | simp [zst1, zst2, zcat_rf]) ?_
    exact w_J16_numberOfLeadingZeros_b48 C0 hf
def f_J16_numberOfLeadingZeros_b14 (E : zE) (s0 : Int32) (h : zH) : Option (Int32 × zH) :=
  some (s0, h)
theorem w_J16_numberOfLeadingZeros_b14 (C0 : zCx p l e R s m args below meth c D B0 2 "java/lang/Integer" cJ16_numberOfLeadingZeros E 1 60 (Option.some Jvm.ClassFile.FieldType.int) "numberOfLeadingZeros") {r : Int32} {h' : zH} {s0 : Int32} {h : zH} (hf : f_J16_numberOfLeadingZeros_b14 E s0 h = some (r, h')) : zW p l e R s m args below meth c D B0 2 (zEnd D B0 R below args s (zoI r) h') h 14 [] [.int s0] := by
  unfold f_J16_numberOfLeadingZeros_b14 at hf
  refine zretW hf ?_
  exact zr_iret C0 (ty := .int) rfl rfl dJ16_numberOfLeadingZeros_14 rfl
def f_J16_numberOfLeadingZeros_b0 (E : zE) (p0 : Int32) (h : zH) : Option (Int32 × zH) :=
  if 0 < p0 then (
    if p0 < (65536 : Int32) then (
      f_J16_numberOfLeadingZeros_b33 E p0 (31 : Int32) h
    ) else (
      f_J16_numberOfLeadingZeros_b33 E ((p0.toUInt32 >>> ((16 : Int32).toUInt32 &&& Int32.toUInt32 31)).toInt32) ((31 : Int32) + (-16)) h
    )
  ) else (
    if p0 = 0 then (
      f_J16_numberOfLeadingZeros_b14 E (32 : Int32) h
    ) else (
      f_J16_numberOfLeadingZeros_b14 E (0 : Int32) h
    )
  )
theorem w_J16_numberOfLeadingZeros_b0 (C0 : zCx p l e R s m args below meth c D B0 2 "java/lang/Integer" cJ16_numberOfLeadingZeros E 1 60 (Option.some Jvm.ClassFile.FieldType.int) "numberOfLeadingZeros") {r : Int32} {h' : zH} {p0 : Int32} {h : zH} (hf : f_J16_numberOfLeadingZeros_b0 E p0 h = some (r, h')) : zW p l e R s m args below meth c D B0 2 (zEnd D B0 R below args s (zoI r) h') h 0 [(0, .int p0)] [] := by
  unfold f_J16_numberOfLeadingZeros_b0 at hf
  refine zr_iload_n C0 dJ16_numberOfLeadingZeros_0 rfl 0 rfl ?_
  refine zr_if_gt C0 (tgt := 15) dJ16_numberOfLeadingZeros_1 (by decide) (fun c1 => ?_) (fun c1 => ?_)
  · have hf := zif_t c1 hf
    refine zr_bipush C0 (v := 31) dJ16_numberOfLeadingZeros_15 (by decide) ?_
    refine zr_istore_n (i := 1) (lv' := [(1, .int (31 : Int32)), (0, .int p0)]) C0 dJ16_numberOfLeadingZeros_17 rfl (by decide) (by first | rfl | simp [zst1, zst2, zcat_rf]) ?_
    refine zr_iload_n C0 dJ16_numberOfLeadingZeros_18 rfl 1 rfl ?_
    refine zr_ldcw C0 (v := 65536) q1237 dJ16_numberOfLeadingZeros_19 ?_
    refine zr_icmp_lt C0 (tgt := 33) dJ16_numberOfLeadingZeros_22 (by decide) (fun c2 => ?_) (fun c2 => ?_)
    · have hf := zif_t c2 hf
      refine zr_sub [1, 0] rfl ?_
      exact w_J16_numberOfLeadingZeros_b33 C0 hf
    · have hf := zif_f c2 hf
      refine zr_iinc (lv' := [(1, .int ((31 : Int32) + (-16))), (0, .int p0)]) C0 dJ16_numberOfLeadingZeros_25 0 rfl rfl (by decide) (by first | rfl | simp [zst1, zst2, zcat_rf]) ?_
      refine zr_iload_n C0 dJ16_numberOfLeadingZeros_28 rfl 1 rfl ?_
      refine zr_bipush C0 (v := 16) dJ16_numberOfLeadingZeros_29 (by decide) ?_
      refine zr_iushr C0 dJ16_numberOfLeadingZeros_31 ?_
      refine zr_istore_n (i := 0) (lv' := [(0, .int ((p0.toUInt32 >>> ((16 : Int32).toUInt32 &&& Int32.toUInt32 31)).toInt32)), (1, .int ((31 : Int32) + (-16)))]) C0 dJ16_numberOfLeadingZeros_32 rfl (by decide) (by first | rfl | simp [zst1, zst2, zcat_rf]) ?_
      exact w_J16_numberOfLeadingZeros_b33 C0 hf
  · have hf := zif_f c1 hf
    refine zr_iload_n C0 dJ16_numberOfLeadingZeros_4 rfl 0 rfl ?_
    refine zr_if_ne C0 (tgt := 13) dJ16_numberOfLeadingZeros_5 (by decide) (fun c3 => ?_) (fun c3 => ?_)
    · have hf := zif_f c3 hf
      refine zr_iconst C0 (v := 0) dJ16_numberOfLeadingZeros_13 (by decide) ?_
      refine zr_sub [] rfl ?_
      exact w_J16_numberOfLeadingZeros_b14 C0 hf
    · have hf := zif_t c3 hf
      refine zr_bipush C0 (v := 32) dJ16_numberOfLeadingZeros_8 (by decide) ?_
      refine zr_goto C0 (tgt := 14) dJ16_numberOfLeadingZeros_10 (by decide) ?_
      refine zr_sub [] rfl ?_
      exact w_J16_numberOfLeadingZeros_b14 C0 hf
def f_J16_numberOfLeadingZeros (E : zE) (p0 : Int32) (h : zH) : Option (Int32 × zH) := f_J16_numberOfLeadingZeros_b0 E p0 h
theorem m_J16_numberOfLeadingZeros {l : Launch} (hst : l.stackTraces = false) {D : zD} {B0 : Nat} {E : zE} {p0 : Int32} {h h' : zH} {r : Int32} (hf : f_J16_numberOfLeadingZeros E p0 h = some (r, h')) : zMet l yJ16_numberOfLeadingZeros (ws_ yJ16_numberOfLeadingZeros cJ16_numberOfLeadingZeros 2 (Option.some Jvm.ClassFile.FieldType.int)) 1 60 D B0 E [.int p0] h (zoI r) h' := by
  unfold f_J16_numberOfLeadingZeros at hf
  refine zMet_of hst (by decide +kernel) rfl rfl (Nat.le_of_ble_eq_true rfl) (fun p e R s m below meth c C0 hno => ?_)
  show zW _ _ _ _ _ _ _ _ _ _ _ _ _ _ _ _ [(0, .int p0)] []
  exact w_J16_numberOfLeadingZeros_b0 C0 hf
def f_J23_getLongUnaligned_A2_b0 (E : zE) (p0 : Nat) (p1 : Nat) (p2 : Int64) (h : zH) : Option (Int64 × zH) :=
  if (p2 &&& (7 : Int64)) = (0 : Int64) then (
    (cko h p0 23).bind fun _ =>
    (gJ h p1 p2).bind fun x5 =>
    some (x5, h)
  ) else (
    if (p2 &&& (3 : Int64)) = (0 : Int64) then (
      none
    ) else (
      if (p2 &&& (1 : Int64)) = (0 : Int64) then (
        none
      ) else (
        none
      )
    )
  )
theorem w_J23_getLongUnaligned_A2_b0 (C0 : zCx p l e R s m args below meth c D B0 4 "jdk/internal/misc/Unsafe" cJ23_getLongUnaligned E 1 60 (Option.some Jvm.ClassFile.FieldType.long) "getLongUnaligned") {r : Int64} {h' : zH} {p0 : Nat} {p1 : Nat} {p2 : Int64} {h : zH} (hf : f_J23_getLongUnaligned_A2_b0 E p0 p1 p2 h = some (r, h')) : zW p l e R s m args below meth c D B0 4 (zEnd D B0 R below args s (zoL r) h') h 0 [(0, .ref p0), (1, .ref p1), (2, .long p2)] [] := by
  unfold f_J23_getLongUnaligned_A2_b0 at hf
  refine zr_lload_n C0 dJ23_getLongUnaligned_0 rfl 2 rfl ?_
  refine zr_ldc2 C0 (v := 7) q1181 dJ23_getLongUnaligned_1 ?_
  refine zr_land C0 dJ23_getLongUnaligned_4 ?_
  refine zr_lconst C0 (v := 0) dJ23_getLongUnaligned_5 (by decide) ?_
  refine zr_lcmp C0 dJ23_getLongUnaligned_6 ?_
  refine zr_if_ne C0 (tgt := 17) dJ23_getLongUnaligned_7 (by decide) (fun c1 => ?_) (fun c1 => ?_)
  · have hf := zif_f (zl_ne.mp c1) hf
    refine zr_lload_n C0 dJ23_getLongUnaligned_17 rfl 2 rfl ?_
    refine zr_ldc2 C0 (v := 3) q1186 dJ23_getLongUnaligned_18 ?_
    refine zr_land C0 dJ23_getLongUnaligned_21 ?_
    refine zr_lconst C0 (v := 0) dJ23_getLongUnaligned_22 (by decide) ?_
    refine zr_lcmp C0 dJ23_getLongUnaligned_23 ?_
    refine zr_if_ne C0 (tgt := 47) dJ23_getLongUnaligned_24 (by decide) (fun c2 => ?_) (fun c2 => ?_)
    · have hf := zif_f (zl_ne.mp c2) hf
      refine zr_lload_n C0 dJ23_getLongUnaligned_47 rfl 2 rfl ?_
      refine zr_lconst C0 (v := 1) dJ23_getLongUnaligned_48 (by decide) ?_
      refine zr_land C0 dJ23_getLongUnaligned_49 ?_
      refine zr_lconst C0 (v := 0) dJ23_getLongUnaligned_50 (by decide) ?_
      refine zr_lcmp C0 dJ23_getLongUnaligned_51 ?_
      refine zr_if_ne C0 (tgt := 95) dJ23_getLongUnaligned_52 (by decide) (fun c3 => ?_) (fun c3 => ?_)
      · have hf := zif_f (zl_ne.mp c3) hf
        refine zr_aload_n C0 dJ23_getLongUnaligned_95 rfl 0 rfl ?_
        refine zr_aload_n C0 dJ23_getLongUnaligned_96 rfl 1 rfl ?_
        refine zr_lload_n C0 dJ23_getLongUnaligned_97 rfl 2 rfl ?_
        cases hf
      · have hf := zif_t (zl_nen.mp c3) hf
        refine zr_aload_n C0 dJ23_getLongUnaligned_55 rfl 0 rfl ?_
        refine zr_aload_n C0 dJ23_getLongUnaligned_56 rfl 1 rfl ?_
        refine zr_lload_n C0 dJ23_getLongUnaligned_57 rfl 2 rfl ?_
        cases hf
    · have hf := zif_t (zl_nen.mp c2) hf
      refine zr_aload_n C0 dJ23_getLongUnaligned_27 rfl 0 rfl ?_
      refine zr_aload_n C0 dJ23_getLongUnaligned_28 rfl 1 rfl ?_
      refine zr_lload_n C0 dJ23_getLongUnaligned_29 rfl 2 rfl ?_
      cases hf
  · have hf := zif_t (zl_nen.mp c1) hf
    refine zr_aload_n C0 dJ23_getLongUnaligned_10 rfl 0 rfl ?_
    refine zr_aload_n C0 dJ23_getLongUnaligned_11 rfl 1 rfl ?_
    refine zr_lload_n C0 dJ23_getLongUnaligned_12 rfl 2 rfl ?_
    obtain ⟨_, e4, hf⟩ := zbind hf
    obtain ⟨x5, e6, hf⟩ := zbind hf
    refine zr_getJ C0 (zcko e4) q1182 (by decide) (Nat.le_of_ble_eq_true rfl) dJ23_getLongUnaligned_13 e6 ?_
    refine zretW hf ?_
    exact zr_lret C0 rfl dJ23_getLongUnaligned_16 rfl
def f_J23_getLongUnaligned_A2 (E : zE) (p0 : Nat) (p1 : Nat) (p2 : Int64) (h : zH) : Option (Int64 × zH) := f_J23_getLongUnaligned_A2_b0 E p0 p1 p2 h
theorem m_J23_getLongUnaligned_A2 {l : Launch} (hst : l.stackTraces = false) {D : zD} {B0 : Nat} {E : zE} {p0 : Nat} {p1 : Nat} {p2 : Int64} {h h' : zH} {r : Int64} (hf : f_J23_getLongUnaligned_A2 E p0 p1 p2 h = some (r, h')) : zMet l yJ23_getLongUnaligned (ws_ yJ23_getLongUnaligned cJ23_getLongUnaligned 4 (Option.some Jvm.ClassFile.FieldType.long)) 1 60 D B0 E [.ref p0, .ref p1, .long p2] h (zoL r) h' := by
  unfold f_J23_getLongUnaligned_A2 at hf
  refine zMet_ofF hst (by decide +kernel) rfl rfl (Nat.le_of_ble_eq_true rfl) (fun p e R s m below meth c C0 hno => ?_)
  show zW _ _ _ _ _ _ _ _ _ _ _ _ _ _ _ _ [(0, .ref p0), (1, .ref p1), (2, .long p2)] []
  exact w_J23_getLongUnaligned_A2_b0 C0 hf
def f_J24_numberOfTrailingZeros_b25 (E : zE) (s0 : Int32) (h : zH) : Option (Int32 × zH) :=
  some (s0, h)
theorem w_J24_numberOfTrailingZeros_b25 (C0 : zCx p l e R s m args below meth c D B0 3 "java/lang/Long" cJ24_numberOfTrailingZeros E 2 81 (Option.some Jvm.ClassFile.FieldType.int) "numberOfTrailingZeros") {r : Int32} {h' : zH} {s0 : Int32} {h : zH} (hf : f_J24_numberOfTrailingZeros_b25 E s0 h = some (r, h')) : zW p l e R s m args below meth c D B0 3 (zEnd D B0 R below args s (zoI r) h') h 25 [] [.int s0] := by
  unfold f_J24_numberOfTrailingZeros_b25 at hf
  refine zretW hf ?_
  exact zr_iret C0 (ty := .int) rfl rfl dJ24_numberOfTrailingZeros_25 rfl
def f_J24_numberOfTrailingZeros_b0 (E : zE) (p0 : Int64) (h : zH) : Option (Int32 × zH) :=
  if (p0.toInt32) = 0 then (
    bnd2 (f_J16_numberOfTrailingZeros E (((p0.toUInt64 >>> ((32 : Int32).toInt64.toUInt64 &&& Int64.toUInt64 63)).toInt64).toInt32) h) fun x7 h5 =>
    f_J24_numberOfTrailingZeros_b25 E ((32 : Int32) + x7) h5
  ) else (
    bnd2 (f_J16_numberOfTrailingZeros E (p0.toInt32) h) fun x4 h2 =>
    f_J24_numberOfTrailingZeros_b25 E x4 h2
  )
theorem w_J24_numberOfTrailingZeros_b0 (C0 : zCx p l e R s m args below meth c D B0 3 "java/lang/Long" cJ24_numberOfTrailingZeros E 2 81 (Option.some Jvm.ClassFile.FieldType.int) "numberOfTrailingZeros") {r : Int32} {h' : zH} {p0 : Int64} {h : zH} (hf : f_J24_numberOfTrailingZeros_b0 E p0 h = some (r, h')) : zW p l e R s m args below meth c D B0 3 (zEnd D B0 R below args s (zoI r) h') h 0 [(0, .long p0)] [] := by
  unfold f_J24_numberOfTrailingZeros_b0 at hf
  refine zr_lload_n C0 dJ24_numberOfTrailingZeros_0 rfl 0 rfl ?_
  refine zr_l2i C0 dJ24_numberOfTrailingZeros_1 ?_
  refine zr_istore_n (i := 2) (lv' := [(2, .int (p0.toInt32)), (0, .long p0)]) C0 dJ24_numberOfTrailingZeros_2 rfl (by decide) (by first | rfl | simp [zst1, zst2, zcat_rf]) ?_
  refine zr_iload_n C0 dJ24_numberOfTrailingZeros_3 rfl 0 rfl ?_
  refine zr_if_ne C0 (tgt := 21) dJ24_numberOfTrailingZeros_4 (by decide) (fun c1 => ?_) (fun c1 => ?_)
  · have hf := zif_f c1 hf
    refine zr_iload_n C0 dJ24_numberOfTrailingZeros_21 rfl 0 rfl ?_
    obtain ⟨x4, h2, e3, hf⟩ := zbind2 hf
    refine zr_callS_r C0 cv_J24_311 (m_J16_numberOfTrailingZeros C0.2.2.2.2.2.2.1 e3) (by decide) (by decide) rfl rfl (Nat.le_of_ble_eq_true rfl) dJ24_numberOfTrailingZeros_22 rfl ?_
    refine zr_sub [] rfl ?_
    exact w_J24_numberOfTrailingZeros_b25 C0 hf
  · have hf := zif_t c1 hf
    refine zr_bipush C0 (v := 32) dJ24_numberOfTrailingZeros_7 (by decide) ?_
    refine zr_lload_n C0 dJ24_numberOfTrailingZeros_9 rfl 1 rfl ?_
    refine zr_bipush C0 (v := 32) dJ24_numberOfTrailingZeros_10 (by decide) ?_
    refine zr_lushr C0 dJ24_numberOfTrailingZeros_12 ?_
    refine zr_l2i C0 dJ24_numberOfTrailingZeros_13 ?_
    obtain ⟨x7, h5, e6, hf⟩ := zbind2 hf
    refine zr_callS_r C0 cv_J24_311 (m_J16_numberOfTrailingZeros C0.2.2.2.2.2.2.1 e6) (by decide) (by decide) rfl rfl (Nat.le_of_ble_eq_true rfl) dJ24_numberOfTrailingZeros_14 rfl ?_
    refine zr_iadd C0 dJ24_numberOfTrailingZeros_17 ?_
    refine zr_goto C0 (tgt := 25) dJ24_numberOfTrailingZeros_18 (by decide) ?_
    refine zr_sub [] rfl ?_
    exact w_J24_numberOfTrailingZeros_b25 C0 hf
def f_J24_numberOfTrailingZeros (E : zE) (p0 : Int64) (h : zH) : Option (Int32 × zH) := f_J24_numberOfTrailingZeros_b0 E p0 h
theorem m_J24_numberOfTrailingZeros {l : Launch} (hst : l.stackTraces = false) {D : zD} {B0 : Nat} {E : zE} {p0 : Int64} {h h' : zH} {r : Int32} (hf : f_J24_numberOfTrailingZeros E p0 h = some (r, h')) : zMet l yJ24_numberOfTrailingZeros (ws_ yJ24_numberOfTrailingZeros cJ24_numberOfTrailingZeros 3 (Option.some Jvm.ClassFile.FieldType.int)) 2 81 D B0 E [.long p0] h (zoI r) h' := by
  unfold f_J24_numberOfTrailingZeros at hf
  refine zMet_of hst (by decide +kernel) rfl rfl (Nat.le_of_ble_eq_true rfl) (fun p e R s m below meth c C0 hno => ?_)
  show zW _ _ _ _ _ _ _ _ _ _ _ _ _ _ _ _ [(0, .long p0)] []
  exact w_J24_numberOfTrailingZeros_b0 C0 hf
def f_J24_numberOfLeadingZeros_b25 (E : zE) (s0 : Int32) (h : zH) : Option (Int32 × zH) :=
  some (s0, h)
theorem w_J24_numberOfLeadingZeros_b25 (C0 : zCx p l e R s m args below meth c D B0 3 "java/lang/Long" cJ24_numberOfLeadingZeros E 2 81 (Option.some Jvm.ClassFile.FieldType.int) "numberOfLeadingZeros") {r : Int32} {h' : zH} {s0 : Int32} {h : zH} (hf : f_J24_numberOfLeadingZeros_b25 E s0 h = some (r, h')) : zW p l e R s m args below meth c D B0 3 (zEnd D B0 R below args s (zoI r) h') h 25 [] [.int s0] := by
  unfold f_J24_numberOfLeadingZeros_b25 at hf
  refine zretW hf ?_
  exact zr_iret C0 (ty := .int) rfl rfl dJ24_numberOfLeadingZeros_25 rfl
def f_J24_numberOfLeadingZeros_b0 (E : zE) (p0 : Int64) (h : zH) : Option (Int32 × zH) :=
  if (((p0.toUInt64 >>> ((32 : Int32).toInt64.toUInt64 &&& Int64.toUInt64 63)).toInt64).toInt32) = 0 then (
    bnd2 (f_J16_numberOfLeadingZeros E (p0.toInt32) h) fun x7 h5 =>
    f_J24_numberOfLeadingZeros_b25 E ((32 : Int32) + x7) h5
  ) else (
    bnd2 (f_J16_numberOfLeadingZeros E (((p0.toUInt64 >>> ((32 : Int32).toInt64.toUInt64 &&& Int64.toUInt64 63)).toInt64).toInt32) h) fun x4 h2 =>
    f_J24_numberOfLeadingZeros_b25 E x4 h2
  )
theorem w_J24_numberOfLeadingZeros_b0 (C0 : zCx p l e R s m args below meth c D B0 3 "java/lang/Long" cJ24_numberOfLeadingZeros E 2 81 (Option.some Jvm.ClassFile.FieldType.int) "numberOfLeadingZeros") {r : Int32} {h' : zH} {p0 : Int64} {h : zH} (hf : f_J24_numberOfLeadingZeros_b0 E p0 h = some (r, h')) : zW p l e R s m args below meth c D B0 3 (zEnd D B0 R below args s (zoI r) h') h 0 [(0, .long p0)] [] := by
  unfold f_J24_numberOfLeadingZeros_b0 at hf
  refine zr_lload_n C0 dJ24_numberOfLeadingZeros_0 rfl 0 rfl ?_
  refine zr_bipush C0 (v := 32) dJ24_numberOfLeadingZeros_1 (by decide) ?_
  refine zr_lushr C0 dJ24_numberOfLeadingZeros_3 ?_
  refine zr_l2i C0 dJ24_numberOfLeadingZeros_4 ?_
  refine zr_istore_n (i := 2) (lv' := [(2, .int (((p0.toUInt64 >>> ((32 : Int32).toInt64.toUInt64 &&& Int64.toUInt64 63)).toInt64).toInt32)), (0, .long p0)]) C0 dJ24_numberOfLeadingZeros_5 rfl (by decide) (by first | rfl | simp [zst1, zst2, zcat_rf]) ?_
  refine zr_iload_n C0 dJ24_numberOfLeadingZeros_6 rfl 0 rfl ?_
  refine zr_if_ne C0 (tgt := 21) dJ24_numberOfLeadingZeros_7 (by decide) (fun c1 => ?_) (fun c1 => ?_)
  · have hf := zif_f c1 hf
    refine zr_iload_n C0 dJ24_numberOfLeadingZeros_21 rfl 0 rfl ?_
    obtain ⟨x4, h2, e3, hf⟩ := zbind2 hf
    refine zr_callS_r C0 cv_J24_308 (m_J16_numberOfLeadingZeros C0.2.2.2.2.2.2.1 e3) (by decide) (by decide) rfl rfl (Nat.le_of_ble_eq_true rfl) dJ24_numberOfLeadingZeros_22 rfl ?_
    refine zr_sub [] rfl ?_
    exact w_J24_numberOfLeadingZeros_b25 C0 hf
  · have hf := zif_t c1 hf
    refine zr_bipush C0 (v := 32) dJ24_numberOfLeadingZeros_10 (by decide) ?_
    refine zr_lload_n C0 dJ24_numberOfLeadingZeros_12 rfl 1 rfl ?_
    refine zr_l2i C0 dJ24_numberOfLeadingZeros_13 ?_
    obtain ⟨x7, h5, e6, hf⟩ := zbind2 hf
    refine zr_callS_r C0 cv_J24_308 (m_J16_numberOfLeadingZeros C0.2.2.2.2.2.2.1 e6) (by decide) (by decide) rfl rfl (Nat.le_of_ble_eq_true rfl) dJ24_numberOfLeadingZeros_14 rfl ?_
    refine zr_iadd C0 dJ24_numberOfLeadingZeros_17 ?_
    refine zr_goto C0 (tgt := 25) dJ24_numberOfLeadingZeros_18 (by decide) ?_
    refine zr_sub [] rfl ?_
    exact w_J24_numberOfLeadingZeros_b25 C0 hf
def f_J24_numberOfLeadingZeros (E : zE) (p0 : Int64) (h : zH) : Option (Int32 × zH) := f_J24_numberOfLeadingZeros_b0 E p0 h
theorem m_J24_numberOfLeadingZeros {l : Launch} (hst : l.stackTraces = false) {D : zD} {B0 : Nat} {E : zE} {p0 : Int64} {h h' : zH} {r : Int32} (hf : f_J24_numberOfLeadingZeros E p0 h = some (r, h')) : zMet l yJ24_numberOfLeadingZeros (ws_ yJ24_numberOfLeadingZeros cJ24_numberOfLeadingZeros 3 (Option.some Jvm.ClassFile.FieldType.int)) 2 81 D B0 E [.long p0] h (zoI r) h' := by
  unfold f_J24_numberOfLeadingZeros at hf
  refine zMet_of hst (by decide +kernel) rfl rfl (Nat.le_of_ble_eq_true rfl) (fun p e R s m below meth c C0 hno => ?_)
  show zW _ _ _ _ _ _ _ _ _ _ _ _ _ _ _ _ [(0, .long p0)] []
  exact w_J24_numberOfLeadingZeros_b0 C0 hf
def f_J11_vectorizedMismatch_A2_A2_b258 (E : zE) (p10 : Int32) (h : zH) : Option (Int32 × zH) :=
  some ((p10 ^^^ (-1 : Int32)), h)
theorem w_J11_vectorizedMismatch_A2_A2_b258 (C0 : zCx p l e R s m args below meth c D B0 19 "jdk/internal/util/ArraysSupport" cJ11_vectorizedMismatch E 3 103 (Option.some Jvm.ClassFile.FieldType.int) "vectorizedMismatch") {r : Int32} {h' : zH} {p10 : Int32} {h : zH} (hf : f_J11_vectorizedMismatch_A2_A2_b258 E p10 h = some (r, h')) : zW p l e R s m args below meth c D B0 19 (zEnd D B0 R below args s (zoI r) h') h 258 [(10, .int p10)] [] := by
  unfold f_J11_vectorizedMismatch_A2_A2_b258 at hf
  refine zr_iload C0 dJ11_vectorizedMismatch_258 0 rfl ?_
  refine zr_iconst C0 (v := -1) dJ11_vectorizedMismatch_260 (by decide) ?_
  refine zr_ixor C0 dJ11_vectorizedMismatch_261 ?_
  refine zretW hf ?_
  exact zr_iret C0 (ty := .int) rfl rfl dJ11_vectorizedMismatch_262 rfl
def f_J11_vectorizedMismatch_A2_A2_b240 (E : zE) (p8 : Int32) (p9 : Int32) (s0 : Int32) (h : zH) : Option (Int32 × zH) :=
  some (((p9 <<< (p8 &&& 31)) + s0), h)
theorem w_J11_vectorizedMismatch_A2_A2_b240 (C0 : zCx p l e R s m args below meth c D B0 19 "jdk/internal/util/ArraysSupport" cJ11_vectorizedMismatch E 3 103 (Option.some Jvm.ClassFile.FieldType.int) "vectorizedMismatch") {r : Int32} {h' : zH} {p8 : Int32} {p9 : Int32} {s0 : Int32} {h : zH} (hf : f_J11_vectorizedMismatch_A2_A2_b240 E p8 p9 s0 h = some (r, h')) : zW p l e R s m args below meth c D B0 19 (zEnd D B0 R below args s (zoI r) h') h 240 [(8, .int p8), (9, .int p9)] [.int s0] := by
  unfold f_J11_vectorizedMismatch_A2_A2_b240 at hf
  refine zr_istore (i := 17) (lv' := [(17, .int s0), (8, .int p8), (9, .int p9)]) C0 dJ11_vectorizedMismatch_240 (by decide) (by first | rfl | simp [zst1, zst2, zcat_rf]) ?_
  refine zr_iload C0 dJ11_vectorizedMismatch_242 2 rfl ?_
  refine zr_iload C0 dJ11_vectorizedMismatch_244 1 rfl ?_
  refine zr_ishl C0 dJ11_vectorizedMismatch_246 ?_
  refine zr_iload C0 dJ11_vectorizedMismatch_247 0 rfl ?_
  refine zr_iadd C0 dJ11_vectorizedMismatch_249 ?_
  refine zretW hf ?_
  exact zr_iret C0 (ty := .int) rfl rfl dJ11_vectorizedMismatch_250 rfl
def f_J11_vectorizedMismatch_A2_A2_b105 (E : zE) (p8 : Int32) (p9 : Int32) (s0 : Int32) (h : zH) : Option (Int32 × zH) :=
  some (((p9 <<< (p8 &&& 31)) + s0), h)
theorem w_J11_vectorizedMismatch_A2_A2_b105 (C0 : zCx p l e R s m args below meth c D B0 19 "jdk/internal/util/ArraysSupport" cJ11_vectorizedMismatch E 3 103 (Option.some Jvm.ClassFile.FieldType.int) "vectorizedMismatch") {r : Int32} {h' : zH} {p8 : Int32} {p9 : Int32} {s0 : Int32} {h : zH} (hf : f_J11_vectorizedMismatch_A2_A2_b105 E p8 p9 s0 h = some (r, h')) : zW p l e R s m args below meth c D B0 19 (zEnd D B0 R below args s (zoI r) h') h 105 [(8, .int p8), (9, .int p9)] [.int s0] := by
  unfold f_J11_vectorizedMismatch_A2_A2_b105 at hf
  refine zr_istore (i := 18) (lv' := [(18, .int s0), (8, .int p8), (9, .int p9)]) C0 dJ11_vectorizedMismatch_105 (by decide) (by first | rfl | simp [zst1, zst2, zcat_rf]) ?_
  refine zr_iload C0 dJ11_vectorizedMismatch_107 2 rfl ?_
  refine zr_iload C0 dJ11_vectorizedMismatch_109 1 rfl ?_
  refine zr_ishl C0 dJ11_vectorizedMismatch_111 ?_
  refine zr_iload C0 dJ11_vectorizedMismatch_112 0 rfl ?_
  refine zr_iadd C0 dJ11_vectorizedMismatch_114 ?_
  refine zretW hf ?_
  exact zr_iret C0 (ty := .int) rfl rfl dJ11_vectorizedMismatch_115 rfl
def f_J11_vectorizedMismatch_A2_A2_l11 (E : zE) : Nat → Nat → Int64 → Nat → Int64 → Int32 → Int32 → Int32 → Int32 → zH → Option (Int32 × zH)
  | 0, _, _, _, _, _, _, _, _, _ => none
  | n + 1, p0, p1, p3, p4, p6, p7, p8, p9, h =>
    if (p6 >>> (p8 &&& 31)) ≤ p9 then (
      if (2 : Int32) ≤ p7 then (
        some (((p6 - (p9 <<< (p8 &&& 31))) ^^^ (-1 : Int32)), h)
      ) else (
        if (p6 - (p9 <<< (p8 &&& 31))) < ((1 : Int32) <<< (((2 : Int32) - p7) &&& 31)) then (
          f_J11_vectorizedMismatch_A2_A2_b258 E (p6 - (p9 <<< (p8 &&& 31))) h
        ) else (
          (cko h (E.2.1 100) 23).bind fun _ =>
          bnd2 (f_J23_getIntUnaligned E (E.2.1 100) p0 (p1 + ((p9.toInt64) <<< ((3 : Int32).toInt64 &&& 63))) h) fun x7 h5 =>
          (cko h5 (E.2.1 100) 23).bind fun _ =>
          bnd2 (f_J23_getIntUnaligned E (E.2.1 100) p3 (p4 + ((p9.toInt64) <<< ((3 : Int32).toInt64 &&& 63))) h5) fun x11 h9 =>
          if x7 = x11 then (
            f_J11_vectorizedMismatch_A2_A2_b258 E ((p6 - (p9 <<< (p8 &&& 31))) - ((1 : Int32) <<< (((2 : Int32) - p7) &&& 31))) h9
          ) else (
            if (0 : Int32) = 0 then (
              bnd2 (f_J16_numberOfTrailingZeros E (x7 ^^^ x11) h9) fun x16 h14 =>
              f_J11_vectorizedMismatch_A2_A2_b240 E p8 p9 (x16 >>> (((3 : Int32) + p7) &&& 31)) h14
            ) else (
              bnd2 (f_J16_numberOfLeadingZeros E (x7 ^^^ x11) h9) fun x19 h17 =>
              f_J11_vectorizedMismatch_A2_A2_b240 E p8 p9 (x19 >>> (((3 : Int32) + p7) &&& 31)) h17
            )
          )
        )
      )
    ) else (
      (cko h (E.2.1 100) 23).bind fun _ =>
      bnd2 (f_J23_getLongUnaligned_A2 E (E.2.1 100) p0 (p1 + ((p9.toInt64) <<< ((3 : Int32).toInt64 &&& 63))) h) fun x23 h21 =>
      (cko h21 (E.2.1 100) 23).bind fun _ =>
      bnd2 (f_J23_getLongUnaligned_A2 E (E.2.1 100) p3 (p4 + ((p9.toInt64) <<< ((3 : Int32).toInt64 &&& 63))) h21) fun x27 h25 =>
      if x23 = x27 then (
        f_J11_vectorizedMismatch_A2_A2_l11 E n p0 p1 p3 p4 p6 p7 p8 (p9 + 1) h25
      ) else (
        if (0 : Int32) = 0 then (
          bnd2 (f_J24_numberOfTrailingZeros E (x23 ^^^ x27) h25) fun x32 h30 =>
          f_J11_vectorizedMismatch_A2_A2_b105 E p8 p9 (x32 >>> (((3 : Int32) + p7) &&& 31)) h30
        ) else (
          bnd2 (f_J24_numberOfLeadingZeros E (x23 ^^^ x27) h25) fun x35 h33 =>
          f_J11_vectorizedMismatch_A2_A2_b105 E p8 p9 (x35 >>> (((3 : Int32) + p7) &&& 31)) h33
        )
      )
    )
theorem w_J11_vectorizedMismatch_A2_A2_l11 (C0 : zCx p l e R s m args below meth c D B0 19 "jdk/internal/util/ArraysSupport" cJ11_vectorizedMismatch E 3 103 (Option.some Jvm.ClassFile.FieldType.int) "vectorizedMismatch") {r : Int32} {h' : zH} : ∀ (n : Nat) (p0 : Nat) (p1 : Int64) (p3 : Nat) (p4 : Int64) (p6 : Int32) (p7 : Int32) (p8 : Int32) (p9 : Int32) (h : zH), f_J11_vectorizedMismatch_A2_A2_l11 E n p0 p1 p3 p4 p6 p7 p8 p9 h = some (r, h') → zW p l e R s m args below meth c D B0 19 (zEnd D B0 R below args s (zoI r) h') h 11 [(0, .ref p0), (1, .long p1), (3, .ref p3), (4, .long p4), (6, .int p6), (7, .int p7), (8, .int p8), (9, .int p9)] [] := by
  intro n
  induction n with
  | zero =>
    intro p0 p1 p3 p4 p6 p7 p8 p9 h hf
    unfold f_J11_vectorizedMismatch_A2_A2_l11 at hf
    cases hf
  | succ n ih =>
    intro p0 p1 p3 p4 p6 p7 p8 p9 h hf
    unfold f_J11_vectorizedMismatch_A2_A2_l11 at hf
    refine zr_iload C0 dJ11_vectorizedMismatch_11 7 rfl ?_
    refine zr_iload C0 dJ11_vectorizedMismatch_13 4 rfl ?_
    refine zr_iload C0 dJ11_vectorizedMismatch_15 6 rfl ?_
    refine zr_ishr C0 dJ11_vectorizedMismatch_17 ?_
    refine zr_icmp_ge C0 (tgt := 122) dJ11_vectorizedMismatch_18 (by decide) (fun c1 => ?_) (fun c1 => ?_)
    · have hf := zif_t c1 hf
      refine zr_iload C0 dJ11_vectorizedMismatch_122 4 rfl ?_
      refine zr_iload C0 dJ11_vectorizedMismatch_124 7 rfl ?_
      refine zr_iload C0 dJ11_vectorizedMismatch_126 6 rfl ?_
      refine zr_ishl C0 dJ11_vectorizedMismatch_128 ?_
      refine zr_isub C0 dJ11_vectorizedMismatch_129 ?_
      refine zr_istore (i := 10) (lv' := [(10, .int (p6 - (p9 <<< (p8 &&& 31)))), (0, .ref p0), (1, .long p1), (3, .ref p3), (4, .long p4), (6, .int p6), (7, .int p7), (8, .int p8), (9, .int p9)]) C0 dJ11_vectorizedMismatch_130 (by decide) (by first | rfl | simp [zst1, zst2, zcat_rf]) ?_
      refine zr_iload C0 dJ11_vectorizedMismatch_132 6 rfl ?_
      refine zr_gets C0 (C0.2.2.2.2.2.2.2.2.2.1.2.2.1 _ (List.mem_of_getElem? (i := 7) rfl)) q1246 dJ11_vectorizedMismatch_134 ?_
      refine zr_icmp_ge C0 (tgt := 263) dJ11_vectorizedMismatch_137 (by decide) (fun c2 => ?_) (fun c2 => ?_)
      · have hf := zif_t c2 hf
        refine zr_iload C0 dJ11_vectorizedMismatch_263 0 rfl ?_
        refine zr_iconst C0 (v := -1) dJ11_vectorizedMismatch_265 (by decide) ?_
        refine zr_ixor C0 dJ11_vectorizedMismatch_266 ?_
        refine zretW hf ?_
        exact zr_iret C0 (ty := .int) rfl rfl dJ11_vectorizedMismatch_267 rfl
      · have hf := zif_f c2 hf
        refine zr_iconst C0 (v := 1) dJ11_vectorizedMismatch_140 (by decide) ?_
        refine zr_gets C0 (C0.2.2.2.2.2.2.2.2.2.1.2.2.1 _ (List.mem_of_getElem? (i := 7) rfl)) q1246 dJ11_vectorizedMismatch_141 ?_
        refine zr_iload C0 dJ11_vectorizedMismatch_144 6 rfl ?_
        refine zr_isub C0 dJ11_vectorizedMismatch_146 ?_
        refine zr_ishl C0 dJ11_vectorizedMismatch_147 ?_
        refine zr_istore (i := 11) (lv' := [(11, .int ((1 : Int32) <<< (((2 : Int32) - p7) &&& 31))), (10, .int (p6 - (p9 <<< (p8 &&& 31)))), (0, .ref p0), (1, .long p1), (3, .ref p3), (4, .long p4), (6, .int p6), (7, .int p7), (8, .int p8), (9, .int p9)]) C0 dJ11_vectorizedMismatch_148 (by decide) (by first | rfl | simp [zst1, zst2, zcat_rf]) ?_
        refine zr_iload C0 dJ11_vectorizedMismatch_150 1 rfl ?_
        refine zr_iload C0 dJ11_vectorizedMismatch_152 0 rfl ?_
        refine zr_icmp_lt C0 (tgt := 258) dJ11_vectorizedMismatch_154 (by decide) (fun c3 => ?_) (fun c3 => ?_)
        · have hf := zif_t c3 hf
          refine zr_sub [1] rfl ?_
          exact w_J11_vectorizedMismatch_A2_A2_b258 C0 hf
        · have hf := zif_f c3 hf
          refine zr_iload C0 dJ11_vectorizedMismatch_157 9 rfl ?_
          refine zr_i2l C0 dJ11_vectorizedMismatch_159 ?_
          refine zr_gets C0 (C0.2.2.2.2.2.2.2.2.2.1.2.2.1 _ (List.mem_of_getElem? (i := 6) rfl)) q1173 dJ11_vectorizedMismatch_160 ?_
          refine zr_lshl C0 dJ11_vectorizedMismatch_163 ?_
          refine zr_lstore (i := 12) (lv' := [(12, .long ((p9.toInt64) <<< ((3 : Int32).toInt64 &&& 63))), (11, .int ((1 : Int32) <<< (((2 : Int32) - p7) &&& 31))), (10, .int (p6 - (p9 <<< (p8 &&& 31)))), (0, .ref p0), (1, .long p1), (3, .ref p3), (4, .long p4), (6, .int p6), (7, .int p7), (8, .int p8), (9, .int p9)]) C0 dJ11_vectorizedMismatch_164 (by decide) (by first | rfl | simp [zst1, zst2, zcat_rf]) ?_
          refine zr_gets C0 C0.2.2.2.2.2.2.2.2.2.1.2.2.2.2.2.2.2.2.1 q1175 dJ11_vectorizedMismatch_166 ?_
          refine zr_aload_n C0 dJ11_vectorizedMismatch_169 rfl 3 rfl ?_
          refine zr_lload_n C0 dJ11_vectorizedMismatch_170 rfl 4 rfl ?_
          refine zr_lload C0 dJ11_vectorizedMismatch_171 0 rfl ?_
          refine zr_ladd C0 dJ11_vectorizedMismatch_173 ?_
          obtain ⟨_, e4, hf⟩ := zbind hf
          obtain ⟨x7, h5, e6, hf⟩ := zbind2 hf
          refine zr_callV_r C0 cv_J11_54_J23 rfl (zcko e4) (m_J23_getIntUnaligned C0.2.2.2.2.2.2.1 e6) (by decide) (by decide) rfl rfl (Nat.le_of_ble_eq_true rfl) dJ11_vectorizedMismatch_174 rfl ?_
          refine zr_istore (i := 14) (lv' := [(14, .int x7), (12, .long ((p9.toInt64) <<< ((3 : Int32).toInt64 &&& 63))), (11, .int ((1 : Int32) <<< (((2 : Int32) - p7) &&& 31))), (10, .int (p6 - (p9 <<< (p8 &&& 31)))), (0, .ref p0), (1, .long p1), (3, .ref p3), (4, .long p4), (6, .int p6), (7, .int p7), (8, .int p8), (9, .int p9)]) C0 dJ11_vectorizedMismatch_177 (by decide) (by first | rfl | simp [zst1, zst2, zcat_rf]) ?_
          refine zr_gets C0 C0.2.2.2.2.2.2.2.2.2.1.2.2.2.2.2.2.2.2.1 q1175 dJ11_vectorizedMismatch_179 ?_
          refine zr_aload_n C0 dJ11_vectorizedMismatch_182 rfl 6 rfl ?_
          refine zr_lload C0 dJ11_vectorizedMismatch_183 7 rfl ?_
          refine zr_lload C0 dJ11_vectorizedMismatch_185 1 rfl ?_
          refine zr_ladd C0 dJ11_vectorizedMismatch_187 ?_
          obtain ⟨_, e8, hf⟩ := zbind hf
          obtain ⟨x11, h9, e10, hf⟩ := zbind2 hf
          refine zr_callV_r C0 cv_J11_54_J23 rfl (zcko e8) (m_J23_getIntUnaligned C0.2.2.2.2.2.2.1 e10) (by decide) (by decide) rfl rfl (Nat.le_of_ble_eq_true rfl) dJ11_vectorizedMismatch_188 rfl ?_
          refine zr_istore (i := 15) (lv' := [(15, .int x11), (14, .int x7), (12, .long ((p9.toInt64) <<< ((3 : Int32).toInt64 &&& 63))), (11, .int ((1 : Int32) <<< (((2 : Int32) - p7) &&& 31))), (10, .int (p6 - (p9 <<< (p8 &&& 31)))), (0, .ref p0), (1, .long p1), (3, .ref p3), (4, .long p4), (6, .int p6), (7, .int p7), (8, .int p8), (9, .int p9)]) C0 dJ11_vectorizedMismatch_191 (by decide) (by first | rfl | simp [zst1, zst2, zcat_rf]) ?_
          refine zr_iload C0 dJ11_vectorizedMismatch_193 1 rfl ?_
          refine zr_iload C0 dJ11_vectorizedMismatch_195 0 rfl ?_
          refine zr_icmp_eq C0 (tgt := 251) dJ11_vectorizedMismatch_197 (by decide) (fun c12 => ?_) (fun c12 => ?_)
          · have hf := zif_t c12 hf
            refine zr_iload C0 dJ11_vectorizedMismatch_251 4 rfl ?_
            refine zr_iload C0 dJ11_vectorizedMismatch_253 3 rfl ?_
            refine zr_isub C0 dJ11_vectorizedMismatch_255 ?_
            refine zr_istore (i := 10) (lv' := [(10, .int ((p6 - (p9 <<< (p8 &&& 31))) - ((1 : Int32) <<< (((2 : Int32) - p7) &&& 31)))), (15, .int x11), (14, .int x7), (12, .long ((p9.toInt64) <<< ((3 : Int32).toInt64 &&& 63))), (11, .int ((1 : Int32) <<< (((2 : Int32) - p7) &&& 31))), (0, .ref p0), (1, .long p1), (3, .ref p3), (4, .long p4), (6, .int p6), (7, .int p7), (8, .int p8), (9, .int p9)]) C0 dJ11_vectorizedMismatch_256 (by decide) (by first | rfl | simp [zst1, zst2, zcat_rf]) ?_
            refine zr_sub [0] rfl ?_
            exact w_J11_vectorizedMismatch_A2_A2_b258 C0 hf
          · have hf := zif_f c12 hf
            refine zr_iload C0 dJ11_vectorizedMismatch_200 1 rfl ?_
            refine zr_iload C0 dJ11_vectorizedMismatch_202 0 rfl ?_
            refine zr_ixor C0 dJ11_vectorizedMismatch_204 ?_
            refine zr_istore (i := 16) (lv' := [(16, .int (x7 ^^^ x11)), (15, .int x11), (14, .int x7), (12, .long ((p9.toInt64) <<< ((3 : Int32).toInt64 &&& 63))), (11, .int ((1 : Int32) <<< (((2 : Int32) - p7) &&& 31))), (10, .int (p6 - (p9 <<< (p8 &&& 31)))), (0, .ref p0), (1, .long p1), (3, .ref p3), (4, .long p4), (6, .int p6), (7, .int p7), (8, .int p8), (9, .int p9)]) C0 dJ11_vectorizedMismatch_205 (by decide) (by first | rfl | simp [zst1, zst2, zcat_rf]) ?_
            refine zr_gets C0 (C0.2.2.2.2.2.2.2.2.2.1.2.2.1 _ (List.mem_of_getElem? (i := 3) rfl)) q1229 dJ11_vectorizedMismatch_207 ?_
            refine zr_if_eq C0 (tgt := 228) dJ11_vectorizedMismatch_210 (by decide) (fun c13 => ?_) (fun c13 => ?_)
            · have hf := zif_t c13 hf
              refine zr_iload C0 dJ11_vectorizedMismatch_228 0 rfl ?_
              obtain ⟨x16, h14, e15, hf⟩ := zbind2 hf
              refine zr_callS_r C0 cv_J11_11 (m_J16_numberOfTrailingZeros C0.2.2.2.2.2.2.1 e15) (by decide) (by decide) rfl rfl (Nat.le_of_ble_eq_true rfl) dJ11_vectorizedMismatch_230 rfl ?_
              refine zr_gets C0 (C0.2.2.2.2.2.2.2.2.2.1.2.2.1 _ (List.mem_of_getElem? (i := 5) rfl)) q1238 dJ11_vectorizedMismatch_233 ?_
              refine zr_iload C0 dJ11_vectorizedMismatch_236 11 rfl ?_
              refine zr_iadd C0 dJ11_vectorizedMismatch_238 ?_
              refine zr_ishr C0 dJ11_vectorizedMismatch_239 ?_
              refine zr_sub [12, 13] rfl ?_
              exact w_J11_vectorizedMismatch_A2_A2_b240 C0 hf
            · have hf := zif_f c13 hf
              refine zr_iload C0 dJ11_vectorizedMismatch_213 0 rfl ?_
              obtain ⟨x19, h17, e18, hf⟩ := zbind2 hf
              refine zr_callS_r C0 cv_J11_58 (m_J16_numberOfLeadingZeros C0.2.2.2.2.2.2.1 e18) (by decide) (by decide) rfl rfl (Nat.le_of_ble_eq_true rfl) dJ11_vectorizedMismatch_215 rfl ?_
              refine zr_gets C0 (C0.2.2.2.2.2.2.2.2.2.1.2.2.1 _ (List.mem_of_getElem? (i := 5) rfl)) q1238 dJ11_vectorizedMismatch_218 ?_
              refine zr_iload C0 dJ11_vectorizedMismatch_221 11 rfl ?_
              refine zr_iadd C0 dJ11_vectorizedMismatch_223 ?_
              refine zr_ishr C0 dJ11_vectorizedMismatch_224 ?_
              refine zr_goto C0 (tgt := 240) dJ11_vectorizedMismatch_225 (by decide) ?_
              refine zr_sub [12, 13] rfl ?_
              exact w_J11_vectorizedMismatch_A2_A2_b240 C0 hf
    · have hf := zif_f c1 hf
      refine zr_iload C0 dJ11_vectorizedMismatch_21 7 rfl ?_
      refine zr_i2l C0 dJ11_vectorizedMismatch_23 ?_
      refine zr_gets C0 (C0.2.2.2.2.2.2.2.2.2.1.2.2.1 _ (List.mem_of_getElem? (i := 6) rfl)) q1173 dJ11_vectorizedMismatch_24 ?_
      refine zr_lshl C0 dJ11_vectorizedMismatch_27 ?_
      refine zr_lstore (i := 10) (lv' := [(10, .long ((p9.toInt64) <<< ((3 : Int32).toInt64 &&& 63))), (0, .ref p0), (1, .long p1), (3, .ref p3), (4, .long p4), (6, .int p6), (7, .int p7), (8, .int p8), (9, .int p9)]) C0 dJ11_vectorizedMismatch_28 (by decide) (by first | rfl | simp [zst1, zst2, zcat_rf]) ?_
      refine zr_gets C0 C0.2.2.2.2.2.2.2.2.2.1.2.2.2.2.2.2.2.2.1 q1175 dJ11_vectorizedMismatch_30 ?_
      refine zr_aload_n C0 dJ11_vectorizedMismatch_33 rfl 1 rfl ?_
      refine zr_lload_n C0 dJ11_vectorizedMismatch_34 rfl 2 rfl ?_
      refine zr_lload C0 dJ11_vectorizedMismatch_35 0 rfl ?_
      refine zr_ladd C0 dJ11_vectorizedMismatch_37 ?_
      obtain ⟨_, e20, hf⟩ := zbind hf
      obtain ⟨x23, h21, e22, hf⟩ := zbind2 hf
      refine zr_callV_r C0 cv_J11_30_J23 rfl (zcko e20) (m_J23_getLongUnaligned_A2 C0.2.2.2.2.2.2.1 e22) (by decide) (by decide) rfl rfl (Nat.le_of_ble_eq_true rfl) dJ11_vectorizedMismatch_38 rfl ?_
      refine zr_lstore (i := 12) (lv' := [(12, .long x23), (10, .long ((p9.toInt64) <<< ((3 : Int32).toInt64 &&& 63))), (0, .ref p0), (1, .long p1), (3, .ref p3), (4, .long p4), (6, .int p6), (7, .int p7), (8, .int p8), (9, .int p9)]) C0 dJ11_vectorizedMismatch_41 (by decide) (by first | rfl | simp [zst1, zst2, zcat_rf]) ?_
      refine zr_gets C0 C0.2.2.2.2.2.2.2.2.2.1.2.2.2.2.2.2.2.2.1 q1175 dJ11_vectorizedMismatch_43 ?_
      refine zr_aload_n C0 dJ11_vectorizedMismatch_46 rfl 4 rfl ?_
      refine zr_lload C0 dJ11_vectorizedMismatch_47 5 rfl ?_
      refine zr_lload C0 dJ11_vectorizedMismatch_49 1 rfl ?_
      refine zr_ladd C0 dJ11_vectorizedMismatch_51 ?_
      obtain ⟨_, e24, hf⟩ := zbind hf
      obtain ⟨x27, h25, e26, hf⟩ := zbind2 hf
      refine zr_callV_r C0 cv_J11_30_J23 rfl (zcko e24) (m_J23_getLongUnaligned_A2 C0.2.2.2.2.2.2.1 e26) (by decide) (by decide) rfl rfl (Nat.le_of_ble_eq_true rfl) dJ11_vectorizedMismatch_52 rfl ?_
      refine zr_lstore (i := 14) (lv' := [(14, .long x27), (12, .long x23), (10, .long ((p9.toInt64) <<< ((3 : Int32).toInt64 &&& 63))), (0, .ref p0), (1, .long p1), (3, .ref p3), (4, .long p4), (6, .int p6), (7, .int p7), (8, .int p8), (9, .int p9)]) C0 dJ11_vectorizedMismatch_55 (by decide) (by first | rfl | simp [zst1, zst2, zcat_rf]) ?_
      refine zr_lload C0 dJ11_vectorizedMismatch_57 1 rfl ?_
      refine zr_lload C0 dJ11_vectorizedMismatch_59 0 rfl ?_
      refine zr_lcmp C0 dJ11_vectorizedMismatch_61 ?_
      refine zr_if_eq C0 (tgt := 116) dJ11_vectorizedMismatch_62 (by decide) (fun c28 => ?_) (fun c28 => ?_)
      · have hf := zif_t (zl_eq.mp c28) hf
        refine zr_iinc (lv' := [(9, .int (p9 + 1)), (14, .long x27), (12, .long x23), (10, .long ((p9.toInt64) <<< ((3 : Int32).toInt64 &&& 63))), (0, .ref p0), (1, .long p1), (3, .ref p3), (4, .long p4), (6, .int p6), (7, .int p7), (8, .int p8)]) C0 dJ11_vectorizedMismatch_116 10 rfl rfl (by decide) (by first | rfl | simp [zst1, zst2, zcat_rf]) ?_
        refine zr_goto C0 (tgt := 11) dJ11_vectorizedMismatch_119 (by decide) ?_
        refine zr_sub [4, 5, 6, 7, 8, 9, 10, 0] rfl ?_
        exact ih _ _ _ _ _ _ _ _ _ hf
      · have hf := zif_f (zl_eqn.mp c28) hf
        refine zr_lload C0 dJ11_vectorizedMismatch_65 1 rfl ?_
        refine zr_lload C0 dJ11_vectorizedMismatch_67 0 rfl ?_
        refine zr_lxor C0 dJ11_vectorizedMismatch_69 ?_
        refine zr_lstore (i := 16) (lv' := [(16, .long (x23 ^^^ x27)), (14, .long x27), (12, .long x23), (10, .long ((p9.toInt64) <<< ((3 : Int32).toInt64 &&& 63))), (0, .ref p0), (1, .long p1), (3, .ref p3), (4, .long p4), (6, .int p6), (7, .int p7), (8, .int p8), (9, .int p9)]) C0 dJ11_vectorizedMismatch_70 (by decide) (by first | rfl | simp [zst1, zst2, zcat_rf]) ?_
        refine zr_gets C0 (C0.2.2.2.2.2.2.2.2.2.1.2.2.1 _ (List.mem_of_getElem? (i := 3) rfl)) q1229 dJ11_vectorizedMismatch_72 ?_
        refine zr_if_eq C0 (tgt := 93) dJ11_vectorizedMismatch_75 (by decide) (fun c29 => ?_) (fun c29 => ?_)
        · have hf := zif_t c29 hf
          refine zr_lload C0 dJ11_vectorizedMismatch_93 0 rfl ?_
          obtain ⟨x32, h30, e31, hf⟩ := zbind2 hf
          refine zr_callS_r C0 cv_J11_49 (m_J24_numberOfTrailingZeros C0.2.2.2.2.2.2.1 e31) (by decide) (by decide) rfl rfl (Nat.le_of_ble_eq_true rfl) dJ11_vectorizedMismatch_95 rfl ?_
          refine zr_gets C0 (C0.2.2.2.2.2.2.2.2.2.1.2.2.1 _ (List.mem_of_getElem? (i := 5) rfl)) q1238 dJ11_vectorizedMismatch_98 ?_
          refine zr_iload C0 dJ11_vectorizedMismatch_101 9 rfl ?_
          refine zr_iadd C0 dJ11_vectorizedMismatch_103 ?_
          refine zr_ishr C0 dJ11_vectorizedMismatch_104 ?_
          refine zr_sub [10, 11] rfl ?_
          exact w_J11_vectorizedMismatch_A2_A2_b105 C0 hf
        · have hf := zif_f c29 hf
          refine zr_lload C0 dJ11_vectorizedMismatch_78 0 rfl ?_
          obtain ⟨x35, h33, e34, hf⟩ := zbind2 hf
          refine zr_callS_r C0 cv_J11_40 (m_J24_numberOfLeadingZeros C0.2.2.2.2.2.2.1 e34) (by decide) (by decide) rfl rfl (Nat.le_of_ble_eq_true rfl) dJ11_vectorizedMismatch_80 rfl ?_
          refine zr_gets C0 (C0.2.2.2.2.2.2.2.2.2.1.2.2.1 _ (List.mem_of_getElem? (i := 5) rfl)) q1238 dJ11_vectorizedMismatch_83 ?_
          refine zr_iload C0 dJ11_vectorizedMismatch_86 9 rfl ?_
          refine zr_iadd C0 dJ11_vectorizedMismatch_88 ?_
          refine zr_ishr C0 dJ11_vectorizedMismatch_89 ?_
          refine zr_goto C0 (tgt := 105) dJ11_vectorizedMismatch_90 (by decide) ?_
          refine zr_sub [10, 11] rfl ?_
          exact w_J11_vectorizedMismatch_A2_A2_b105 C0 hf
def f_J11_vectorizedMismatch_A2_A2_b0 (E : zE) (p0 : Nat) (p1 : Int64) (p3 : Nat) (p4 : Int64) (p6 : Int32) (p7 : Int32) (h : zH) : Option (Int32 × zH) :=
  f_J11_vectorizedMismatch_A2_A2_l11 E E.1 p0 p1 p3 p4 p6 p7 ((3 : Int32) - p7) (0 : Int32) h
theorem w_J11_vectorizedMismatch_A2_A2_b0 (C0 : zCx p l e R s m args below meth c D B0 19 "jdk/internal/util/ArraysSupport" cJ11_vectorizedMismatch E 3 103 (Option.some Jvm.ClassFile.FieldType.int) "vectorizedMismatch") {r : Int32} {h' : zH} {p0 : Nat} {p1 : Int64} {p3 : Nat} {p4 : Int64} {p6 : Int32} {p7 : Int32} {h : zH} (hf : f_J11_vectorizedMismatch_A2_A2_b0 E p0 p1 p3 p4 p6 p7 h = some (r, h')) : zW p l e R s m args below meth c D B0 19 (zEnd D B0 R below args s (zoI r) h') h 0 [(0, .ref p0), (1, .long p1), (3, .ref p3), (4, .long p4), (6, .int p6), (7, .int p7)] [] := by
  unfold f_J11_vectorizedMismatch_A2_A2_b0 at hf
  refine zr_gets C0 (C0.2.2.2.2.2.2.2.2.2.1.2.2.1 _ (List.mem_of_getElem? (i := 6) rfl)) q1173 dJ11_vectorizedMismatch_0 ?_
  refine zr_iload C0 dJ11_vectorizedMismatch_3 5 rfl ?_
  refine zr_isub C0 dJ11_vectorizedMismatch_5 ?_
  refine zr_istore (i := 8) (lv' := [(8, .int ((3 : Int32) - p7)), (0, .ref p0), (1, .long p1), (3, .ref p3), (4, .long p4), (6, .int p6), (7, .int p7)]) C0 dJ11_vectorizedMismatch_6 (by decide) (by first | rfl | simp [zst1, zst2, zcat_rf]) ?_
  refine zr_iconst C0 (v := 0) dJ11_vectorizedMismatch_8 (by decide) ?_
  refine zr_istore (i := 9) (lv' := [(9, .int (0 : Int32)), (8, .int ((3 : Int32) - p7)), (0, .ref p0), (1, .long p1), (3, .ref p3), (4, .long p4), (6, .int p6), (7, .int p7)]) C0 dJ11_vectorizedMismatch_9 (by decide) (by first | rfl | simp [zst1, zst2, zcat_rf]) ?_
  refine zr_sub [2, 3, 4, 5, 6, 7, 1, 0] rfl ?_
  exact w_J11_vectorizedMismatch_A2_A2_l11 C0 _ _ _ _ _ _ _ _ _ _ hf
def f_J11_vectorizedMismatch_A2_A2 (E : zE) (p0 : Nat) (p1 : Int64) (p3 : Nat) (p4 : Int64) (p6 : Int32) (p7 : Int32) (h : zH) : Option (Int32 × zH) := f_J11_vectorizedMismatch_A2_A2_b0 E p0 p1 p3 p4 p6 p7 h
theorem m_J11_vectorizedMismatch_A2_A2 {l : Launch} (hst : l.stackTraces = false) {D : zD} {B0 : Nat} {E : zE} {p0 : Nat} {p1 : Int64} {p3 : Nat} {p4 : Int64} {p6 : Int32} {p7 : Int32} {h h' : zH} {r : Int32} (hf : f_J11_vectorizedMismatch_A2_A2 E p0 p1 p3 p4 p6 p7 h = some (r, h')) : zMet l yJ11_vectorizedMismatch (ws_ yJ11_vectorizedMismatch cJ11_vectorizedMismatch 19 (Option.some Jvm.ClassFile.FieldType.int)) 3 103 D B0 E [.ref p0, .long p1, .ref p3, .long p4, .int p6, .int p7] h (zoI r) h' := by
  unfold f_J11_vectorizedMismatch_A2_A2 at hf
  refine zMet_of hst (by decide +kernel) rfl rfl (Nat.le_of_ble_eq_true rfl) (fun p e R s m below meth c C0 hno => ?_)
  show zW _ _ _ _ _ _ _ _ _ _ _ _ _ _ _ _ [(0, .ref p0), (1, .long p1), (3, .ref p3), (4, .long p4), (6, .int p6), (7, .int p7)] []
  exact w_J11_vectorizedMismatch_A2_A2_b0 C0 hf
def f_J11_mismatch_l49 (E : zE) : Nat → Nat → Nat → Int32 → Int32 → zH → Option (Int32 × zH)
  | 0, _, _, _, _, _ => none
  | n + 1, p0, p1, p2, p3, h =>
    if p2 ≤ p3 then (
      some ((-1 : Int32), h)
    ) else (
      (dI h p0 2 p3).bind fun x2 =>
      (dI h p1 2 p3).bind fun x4 =>
      if x2 = x4 then (
        f_J11_mismatch_l49 E n p0 p1 p2 (p3 + 1) h
      ) else (
        some (p3, h)
      )
    )
theorem w_J11_mismatch_l49 (C0 : zCx p l e R s m args below meth c D B0 4 "jdk/internal/util/ArraysSupport" cJ11_mismatch E 4 141 (Option.some Jvm.ClassFile.FieldType.int) "mismatch") {r : Int32} {h' : zH} : ∀ (n : Nat) (p0 : Nat) (p1 : Nat) (p2 : Int32) (p3 : Int32) (h : zH), f_J11_mismatch_l49 E n p0 p1 p2 p3 h = some (r, h') → zW p l e R s m args below meth c D B0 4 (zEnd D B0 R below args s (zoI r) h') h 49 [(0, .ref p0), (1, .ref p1), (2, .int p2), (3, .int p3)] [] := by
  intro n
  induction n with
  | zero =>
    intro p0 p1 p2 p3 h hf
    unfold f_J11_mismatch_l49 at hf
    cases hf
  | succ n ih =>
    intro p0 p1 p2 p3 h hf
    unfold f_J11_mismatch_l49 at hf
    refine zr_iload_n C0 dJ11_mismatch_49 rfl 3 rfl ?_
    refine zr_iload_n C0 dJ11_mismatch_50 rfl 2 rfl ?_
    refine zr_icmp_ge C0 (tgt := 71) dJ11_mismatch_51 (by decide) (fun c1 => ?_) (fun c1 => ?_)
    · have hf := zif_t c1 hf
      refine zr_iconst C0 (v := -1) dJ11_mismatch_71 (by decide) ?_
      refine zretW hf ?_
      exact zr_iret C0 (ty := .int) rfl rfl dJ11_mismatch_72 rfl
    · have hf := zif_f c1 hf
      refine zr_aload_n C0 dJ11_mismatch_54 rfl 0 rfl ?_
      refine zr_iload_n C0 dJ11_mismatch_55 rfl 3 rfl ?_
      obtain ⟨x2, e3, hf⟩ := zbind hf
      refine zr_bald C0 dJ11_mismatch_56 e3 ?_
      refine zr_aload_n C0 dJ11_mismatch_57 rfl 1 rfl ?_
      refine zr_iload_n C0 dJ11_mismatch_58 rfl 3 rfl ?_
      obtain ⟨x4, e5, hf⟩ := zbind hf
      refine zr_bald C0 dJ11_mismatch_59 e5 ?_
      refine zr_icmp_eq C0 (tgt := 65) dJ11_mismatch_60 (by decide) (fun c6 => ?_) (fun c6 => ?_)
      · have hf := zif_t c6 hf
        refine zr_iinc (lv' := [(3, .int (p3 + 1)), (0, .ref p0), (1, .ref p1), (2, .int p2)]) C0 dJ11_mismatch_65 3 rfl rfl (by decide) (by first | rfl | simp [zst1, zst2, zcat_rf]) ?_
        refine zr_goto C0 (tgt := 49) dJ11_mismatch_68 (by decide) ?_
        refine zr_sub [1, 2, 3, 0] rfl ?_
        exact ih _ _ _ _ _ hf
      · have hf := zif_f c6 hf
        refine zr_iload_n C0 dJ11_mismatch_63 rfl 3 rfl ?_
        refine zretW hf ?_
        exact zr_iret C0 (ty := .int) rfl rfl dJ11_mismatch_64 rfl
def f_J11_mismatch_b0 (E : zE) (p0 : Nat) (p1 : Nat) (p2 : Int32) (h : zH) : Option (Int32 × zH) :=
  if p2 ≤ (7 : Int32) then (
    f_J11_mismatch_l49 E E.1 p0 p1 p2 (0 : Int32) h
  ) else (
    (dI h p0 2 (0 : Int32)).bind fun x2 =>
    (dI h p1 2 (0 : Int32)).bind fun x4 =>
    if x2 = x4 then (
      bnd2 (f_J11_vectorizedMismatch_A2_A2 E p0 ((16 : Int32).toInt64) p1 ((16 : Int32).toInt64) p2 (0 : Int32) h) fun x9 h7 =>
      if x9 < 0 then (
        f_J11_mismatch_l49 E E.1 p0 p1 p2 (p2 - (x9 ^^^ (-1 : Int32))) h7
      ) else (
        some (x9, h7)
      )
    ) else (
      some ((0 : Int32), h)
    )
  )
theorem w_J11_mismatch_b0 (C0 : zCx p l e R s m args below meth c D B0 4 "jdk/internal/util/ArraysSupport" cJ11_mismatch E 4 141 (Option.some Jvm.ClassFile.FieldType.int) "mismatch") {r : Int32} {h' : zH} {p0 : Nat} {p1 : Nat} {p2 : Int32} {h : zH} (hf : f_J11_mismatch_b0 E p0 p1 p2 h = some (r, h')) : zW p l e R s m args below meth c D B0 4 (zEnd D B0 R below args s (zoI r) h') h 0 [(0, .ref p0), (1, .ref p1), (2, .int p2)] [] := by
  unfold f_J11_mismatch_b0 at hf
  refine zr_iconst C0 (v := 0) dJ11_mismatch_0 (by decide) ?_
  refine zr_istore_n (i := 3) (lv' := [(3, .int (0 : Int32)), (0, .ref p0), (1, .ref p1), (2, .int p2)]) C0 dJ11_mismatch_1 rfl (by decide) (by first | rfl | simp [zst1, zst2, zcat_rf]) ?_
  refine zr_iload_n C0 dJ11_mismatch_2 rfl 3 rfl ?_
  refine zr_bipush C0 (v := 7) dJ11_mismatch_3 (by decide) ?_
  refine zr_icmp_le C0 (tgt := 49) dJ11_mismatch_5 (by decide) (fun c1 => ?_) (fun c1 => ?_)
  · have hf := zif_t c1 hf
    refine zr_sub [1, 2, 3, 0] rfl ?_
    exact w_J11_mismatch_l49 C0 _ _ _ _ _ _ hf
  · have hf := zif_f c1 hf
    refine zr_aload_n C0 dJ11_mismatch_8 rfl 1 rfl ?_
    refine zr_iconst C0 (v := 0) dJ11_mismatch_9 (by decide) ?_
    obtain ⟨x2, e3, hf⟩ := zbind hf
    refine zr_bald C0 dJ11_mismatch_10 e3 ?_
    refine zr_aload_n C0 dJ11_mismatch_11 rfl 2 rfl ?_
    refine zr_iconst C0 (v := 0) dJ11_mismatch_12 (by decide) ?_
    obtain ⟨x4, e5, hf⟩ := zbind hf
    refine zr_bald C0 dJ11_mismatch_13 e5 ?_
    refine zr_icmp_eq C0 (tgt := 19) dJ11_mismatch_14 (by decide) (fun c6 => ?_) (fun c6 => ?_)
    · have hf := zif_t c6 hf
      refine zr_aload_n C0 dJ11_mismatch_19 rfl 1 rfl ?_
      refine zr_gets C0 (C0.2.2.2.2.2.2.2.2.2.1.2.2.1 _ (List.mem_of_getElem? (i := 1) rfl)) q1166 dJ11_mismatch_20 ?_
      refine zr_i2l C0 dJ11_mismatch_23 ?_
      refine zr_aload_n C0 dJ11_mismatch_24 rfl 2 rfl ?_
      refine zr_gets C0 (C0.2.2.2.2.2.2.2.2.2.1.2.2.1 _ (List.mem_of_getElem? (i := 1) rfl)) q1166 dJ11_mismatch_25 ?_
      refine zr_i2l C0 dJ11_mismatch_28 ?_
      refine zr_iload_n C0 dJ11_mismatch_29 rfl 3 rfl ?_
      refine zr_gets C0 (C0.2.2.2.2.2.2.2.2.2.1.2.2.1 _ (List.mem_of_getElem? (i := 4) rfl)) q1168 dJ11_mismatch_30 ?_
      obtain ⟨x9, h7, e8, hf⟩ := zbind2 hf
      refine zr_callS_r C0 cv_J11_122 (m_J11_vectorizedMismatch_A2_A2 C0.2.2.2.2.2.2.1 e8) (by decide) (by decide) rfl rfl (Nat.le_of_ble_eq_true rfl) dJ11_mismatch_33 rfl ?_
      refine zr_istore_n (i := 3) (lv' := [(3, .int x9), (0, .ref p0), (1, .ref p1), (2, .int p2)]) C0 dJ11_mismatch_36 rfl (by decide) (by first | rfl | simp [zst1, zst2, zcat_rf]) ?_
      refine zr_iload_n C0 dJ11_mismatch_37 rfl 0 rfl ?_
      refine zr_if_lt C0 (tgt := 43) dJ11_mismatch_38 (by decide) (fun c10 => ?_) (fun c10 => ?_)
      · have hf := zif_t c10 hf
        refine zr_iload_n C0 dJ11_mismatch_43 rfl 3 rfl ?_
        refine zr_iload_n C0 dJ11_mismatch_44 rfl 0 rfl ?_
        refine zr_iconst C0 (v := -1) dJ11_mismatch_45 (by decide) ?_
        refine zr_ixor C0 dJ11_mismatch_46 ?_
        refine zr_isub C0 dJ11_mismatch_47 ?_
        refine zr_istore_n (i := 3) (lv' := [(3, .int (p2 - (x9 ^^^ (-1 : Int32)))), (0, .ref p0), (1, .ref p1), (2, .int p2)]) C0 dJ11_mismatch_48 rfl (by decide) (by first | rfl | simp [zst1, zst2, zcat_rf]) ?_
        refine zr_sub [1, 2, 3, 0] rfl ?_
        exact w_J11_mismatch_l49 C0 _ _ _ _ _ _ hf
      · have hf := zif_f c10 hf
        refine zr_iload_n C0 dJ11_mismatch_41 rfl 0 rfl ?_
        refine zretW hf ?_
        exact zr_iret C0 (ty := .int) rfl rfl dJ11_mismatch_42 rfl
    · have hf := zif_f c6 hf
      refine zr_iconst C0 (v := 0) dJ11_mismatch_17 (by decide) ?_
      refine zretW hf ?_
      exact zr_iret C0 (ty := .int) rfl rfl dJ11_mismatch_18 rfl
def f_J11_mismatch (E : zE) (p0 : Nat) (p1 : Nat) (p2 : Int32) (h : zH) : Option (Int32 × zH) := f_J11_mismatch_b0 E p0 p1 p2 h
theorem m_J11_mismatch {l : Launch} (hst : l.stackTraces = false) {D : zD} {B0 : Nat} {E : zE} {p0 : Nat} {p1 : Nat} {p2 : Int32} {h h' : zH} {r : Int32} (hf : f_J11_mismatch E p0 p1 p2 h = some (r, h')) : zMet l yJ11_mismatch (ws_ yJ11_mismatch cJ11_mismatch 4 (Option.some Jvm.ClassFile.FieldType.int)) 4 141 D B0 E [.ref p0, .ref p1, .int p2] h (zoI r) h' := by
  unfold f_J11_mismatch at hf
  refine zMet_of hst (by decide +kernel) rfl rfl (Nat.le_of_ble_eq_true rfl) (fun p e R s m below meth c C0 hno => ?_)
  show zW _ _ _ _ _ _ _ _ _ _ _ _ _ _ _ _ [(0, .ref p0), (1, .ref p1), (2, .int p2)] []
  exact w_J11_mismatch_b0 C0 hf
def f_J9_nonSyncContentEquals_b65 (E : zE) (s0 : Int32) (h : zH) : Option (Int32 × zH) :=
  (zgd .boolean s0).bind fun _ =>
  some (s0, h)
theorem w_J9_nonSyncContentEquals_b65 (C0 : zCx p l e R s m args below meth c D B0 6 "java/lang/String" cJ9_nonSyncContentEquals E 5 164 (Option.some Jvm.ClassFile.FieldType.boolean) "nonSyncContentEquals") {r : Int32} {h' : zH} {s0 : Int32} {h : zH} (hf : f_J9_nonSyncContentEquals_b65 E s0 h = some (r, h')) : zW p l e R s m args below meth c D B0 6 (zEnd D B0 R below args s (zoI r) h') h 65 [] [.int s0] := by
  unfold f_J9_nonSyncContentEquals_b65 at hf
  obtain ⟨_, e1, hf⟩ := zbind hf
  refine zretW hf ?_
  exact zr_iret C0 (ty := .boolean) rfl (zgd_n e1) dJ9_nonSyncContentEquals_65 rfl
def f_J9_nonSyncContentEquals_b64 (E : zE) (h : zH) : Option (Int32 × zH) :=
  f_J9_nonSyncContentEquals_b65 E (0 : Int32) h
theorem w_J9_nonSyncContentEquals_b64 (C0 : zCx p l e R s m args below meth c D B0 6 "java/lang/String" cJ9_nonSyncContentEquals E 5 164 (Option.some Jvm.ClassFile.FieldType.boolean) "nonSyncContentEquals") {r : Int32} {h' : zH} {h : zH} (hf : f_J9_nonSyncContentEquals_b64 E  h = some (r, h')) : zW p l e R s m args below meth c D B0 6 (zEnd D B0 R below args s (zoI r) h') h 64 [] [] := by
  unfold f_J9_nonSyncContentEquals_b64 at hf
  refine zr_iconst C0 (v := 0) dJ9_nonSyncContentEquals_64 (by decide) ?_
  exact w_J9_nonSyncContentEquals_b65 C0 hf
def f_J9_nonSyncContentEquals_b0 (E : zE) (p0 : Nat) (p1 : Nat) (h : zH) : Option (Int32 × zH) :=
  (cko h p0 19).bind fun _ =>
  bnd2 (f_J9_length E p0 h) fun x4 h2 =>
  (cko h2 p1 18).bind fun _ =>
  bnd2 (f_J8_length E p1 h2) fun x8 h6 =>
  if x4 = x8 then (
    (gR h6 p0 19 0).bind fun x10 =>
    (cko h6 p1 18).bind fun _ =>
    bnd2 (f_J7_getValue E p1 h6) fun x15 h13 =>
    (cko h13 p0 19).bind fun _ =>
    bnd2 (f_J9_coder E p0 h13) fun x19 h17 =>
    (cko h17 p1 18).bind fun _ =>
    bnd2 (f_J7_getCoder E p1 h17) fun x23 h21 =>
    if x19 = x23 then (
      (lenA h21 x10).bind fun x30 =>
      (lenA h21 x15).bind fun x32 =>
      if x32 < x30 then (
        f_J9_nonSyncContentEquals_b64 E  h21
      ) else (
        (lenA h21 x10).bind fun x35 =>
        bnd2 (f_J11_mismatch E x10 x15 x35 h21) fun x39 h37 =>
        if 0 ≤ x39 then (
          f_J9_nonSyncContentEquals_b64 E  h37
        ) else (
          f_J9_nonSyncContentEquals_b65 E (1 : Int32) h37
        )
      )
    ) else (
      if x19 = 0 then (
        bnd2 (f_J10_contentEquals E x10 x15 x4 h21) fun x28 h26 =>
        (zgd .boolean x28).bind fun _ =>
        some (x28, h26)
      ) else (
        some ((0 : Int32), h21)
      )
    )
  ) else (
    some ((0 : Int32), h6)
  )
theorem w_J9_nonSyncContentEquals_b0 (C0 : zCx p l e R s m args below meth c D B0 6 "java/lang/String" cJ9_nonSyncContentEquals E 5 164 (Option.some Jvm.ClassFile.FieldType.boolean) "nonSyncContentEquals") {r : Int32} {h' : zH} {p0 : Nat} {p1 : Nat} {h : zH} (hf : f_J9_nonSyncContentEquals_b0 E p0 p1 h = some (r, h')) : zW p l e R s m args below meth c D B0 6 (zEnd D B0 R below args s (zoI r) h') h 0 [(0, .ref p0), (1, .ref p1)] [] := by
  unfold f_J9_nonSyncContentEquals_b0 at hf
  refine zr_aload_n C0 dJ9_nonSyncContentEquals_0 rfl 0 rfl ?_
  obtain ⟨_, e1, hf⟩ := zbind hf
  obtain ⟨x4, h2, e3, hf⟩ := zbind2 hf
  refine zr_callV_r C0 cv_J9_505_J9 rfl (zcko e1) (m_J9_length C0.2.2.2.2.2.2.1 e3) (by decide) (by decide) rfl rfl (Nat.le_of_ble_eq_true rfl) dJ9_nonSyncContentEquals_1 rfl ?_
  refine zr_istore_n (i := 2) (lv' := [(2, .int x4), (0, .ref p0), (1, .ref p1)]) C0 dJ9_nonSyncContentEquals_4 rfl (by decide) (by first | rfl | simp [zst1, zst2, zcat_rf]) ?_
  refine zr_iload_n C0 dJ9_nonSyncContentEquals_5 rfl 0 rfl ?_
  refine zr_aload_n C0 dJ9_nonSyncContentEquals_6 rfl 2 rfl ?_
  obtain ⟨_, e5, hf⟩ := zbind hf
  obtain ⟨x8, h6, e7, hf⟩ := zbind2 hf
  refine zr_callO_r C0 cv_J9_549_J8 rfl (zcko e5) (m_J8_length C0.2.2.2.2.2.2.1 e7) (by decide) (by decide) rfl rfl (Nat.le_of_ble_eq_true rfl) dJ9_nonSyncContentEquals_7 rfl ?_
  refine zr_icmp_eq C0 (tgt := 15) dJ9_nonSyncContentEquals_10 (by decide) (fun c9 => ?_) (fun c9 => ?_)
  · have hf := zif_t c9 hf
    refine zr_aload_n C0 dJ9_nonSyncContentEquals_15 rfl 1 rfl ?_
    obtain ⟨x10, e11, hf⟩ := zbind hf
    refine zr_get C0 fl_J9_9_J9 dJ9_nonSyncContentEquals_16 (zgR e11) ?_
    refine zr_astore_n (i := 3) (lv' := [(3, .ref x10), (2, .int x4), (0, .ref p0), (1, .ref p1)]) C0 dJ9_nonSyncContentEquals_19 rfl (by decide) (by first | rfl | simp [zst1, zst2, zcat_rf]) ?_
    refine zr_aload_n C0 dJ9_nonSyncContentEquals_20 rfl 3 rfl ?_
    obtain ⟨_, e12, hf⟩ := zbind hf
    obtain ⟨x15, h13, e14, hf⟩ := zbind2 hf
    refine zr_callU_r C0 cv_J9_552_J8 rfl (zcko e12) (m_J7_getValue C0.2.2.2.2.2.2.1 e14) (by decide) (by decide) rfl rfl (Nat.le_of_ble_eq_true rfl) dJ9_nonSyncContentEquals_21 rfl ?_
    refine zr_astore (i := 4) (lv' := [(4, .ref x15), (3, .ref x10), (2, .int x4), (0, .ref p0), (1, .ref p1)]) C0 dJ9_nonSyncContentEquals_24 (by decide) (by first | rfl | simp [zst1, zst2, zcat_rf]) ?_
    refine zr_aload_n C0 dJ9_nonSyncContentEquals_26 rfl 3 rfl ?_
    obtain ⟨_, e16, hf⟩ := zbind hf
    obtain ⟨x19, h17, e18, hf⟩ := zbind2 hf
    refine zr_callV_r C0 cv_J9_335_J9 rfl (zcko e16) (m_J9_coder C0.2.2.2.2.2.2.1 e18) (by decide) (by decide) rfl rfl (Nat.le_of_ble_eq_true rfl) dJ9_nonSyncContentEquals_27 rfl ?_
    refine zr_istore (i := 5) (lv' := [(5, .int x19), (4, .ref x15), (3, .ref x10), (2, .int x4), (0, .ref p0), (1, .ref p1)]) C0 dJ9_nonSyncContentEquals_30 (by decide) (by first | rfl | simp [zst1, zst2, zcat_rf]) ?_
    refine zr_iload C0 dJ9_nonSyncContentEquals_32 0 rfl ?_
    refine zr_aload_n C0 dJ9_nonSyncContentEquals_34 rfl 5 rfl ?_
    obtain ⟨_, e20, hf⟩ := zbind hf
    obtain ⟨x23, h21, e22, hf⟩ := zbind2 hf
    refine zr_callU_r C0 cv_J9_555_J8 rfl (zcko e20) (m_J7_getCoder C0.2.2.2.2.2.2.1 e22) (by decide) (by decide) rfl rfl (Nat.le_of_ble_eq_true rfl) dJ9_nonSyncContentEquals_35 rfl ?_
    refine zr_icmp_ne C0 (tgt := 66) dJ9_nonSyncContentEquals_38 (by decide) (fun c24 => ?_) (fun c24 => ?_)
    · have hf := zif_f c24 hf
      refine zr_iload C0 dJ9_nonSyncContentEquals_66 0 rfl ?_
      refine zr_if_eq C0 (tgt := 73) dJ9_nonSyncContentEquals_68 (by decide) (fun c25 => ?_) (fun c25 => ?_)
      · have hf := zif_t c25 hf
        refine zr_aload_n C0 dJ9_nonSyncContentEquals_73 rfl 2 rfl ?_
        refine zr_aload C0 dJ9_nonSyncContentEquals_74 1 rfl ?_
        refine zr_iload_n C0 dJ9_nonSyncContentEquals_76 rfl 3 rfl ?_
        obtain ⟨x28, h26, e27, hf⟩ := zbind2 hf
        refine zr_callS_r C0 cv_J9_564 (m_J10_contentEquals C0.2.2.2.2.2.2.1 e27) (by decide) (by decide) rfl rfl (Nat.le_of_ble_eq_true rfl) dJ9_nonSyncContentEquals_77 rfl ?_
        obtain ⟨_, e29, hf⟩ := zbind hf
        refine zretW hf ?_
        exact zr_iret C0 (ty := .boolean) rfl (zgd_n e29) dJ9_nonSyncContentEquals_80 rfl
      · have hf := zif_f c25 hf
        refine zr_iconst C0 (v := 0) dJ9_nonSyncContentEquals_71 (by decide) ?_
        refine zretW hf ?_
        exact zr_iret C0 (ty := .boolean) rfl (by decide) dJ9_nonSyncContentEquals_72 rfl
    · have hf := zif_t c24 hf
      refine zr_aload_n C0 dJ9_nonSyncContentEquals_41 rfl 2 rfl ?_
      obtain ⟨x30, e31, hf⟩ := zbind hf
      refine zr_alen C0 dJ9_nonSyncContentEquals_42 e31 ?_
      refine zr_aload C0 dJ9_nonSyncContentEquals_43 1 rfl ?_
      obtain ⟨x32, e33, hf⟩ := zbind hf
      refine zr_alen C0 dJ9_nonSyncContentEquals_45 e33 ?_
      refine zr_icmp_gt C0 (tgt := 64) dJ9_nonSyncContentEquals_46 (by decide) (fun c34 => ?_) (fun c34 => ?_)
      · have hf := zif_t c34 hf
        refine zr_sub [] rfl ?_
        exact w_J9_nonSyncContentEquals_b64 C0 hf
      · have hf := zif_f c34 hf
        refine zr_aload_n C0 dJ9_nonSyncContentEquals_49 rfl 2 rfl ?_
        refine zr_aload C0 dJ9_nonSyncContentEquals_50 1 rfl ?_
        refine zr_aload_n C0 dJ9_nonSyncContentEquals_52 rfl 2 rfl ?_
        obtain ⟨x35, e36, hf⟩ := zbind hf
        refine zr_alen C0 dJ9_nonSyncContentEquals_53 e36 ?_
        obtain ⟨x39, h37, e38, hf⟩ := zbind2 hf
        refine zr_callS_r C0 cv_J9_558 (m_J11_mismatch C0.2.2.2.2.2.2.1 e38) (by decide) (by decide) rfl rfl (Nat.le_of_ble_eq_true rfl) dJ9_nonSyncContentEquals_54 rfl ?_
        refine zr_if_ge C0 (tgt := 64) dJ9_nonSyncContentEquals_57 (by decide) (fun c40 => ?_) (fun c40 => ?_)
        · have hf := zif_t c40 hf
          refine zr_sub [] rfl ?_
          exact w_J9_nonSyncContentEquals_b64 C0 hf
        · have hf := zif_f c40 hf
          refine zr_iconst C0 (v := 1) dJ9_nonSyncContentEquals_60 (by decide) ?_
          refine zr_goto C0 (tgt := 65) dJ9_nonSyncContentEquals_61 (by decide) ?_
          refine zr_sub [] rfl ?_
          exact w_J9_nonSyncContentEquals_b65 C0 hf
  · have hf := zif_f c9 hf
    refine zr_iconst C0 (v := 0) dJ9_nonSyncContentEquals_13 (by decide) ?_
    refine zretW hf ?_
    exact zr_iret C0 (ty := .boolean) rfl (by decide) dJ9_nonSyncContentEquals_14 rfl
def f_J9_nonSyncContentEquals (E : zE) (p0 : Nat) (p1 : Nat) (h : zH) : Option (Int32 × zH) := f_J9_nonSyncContentEquals_b0 E p0 p1 h
theorem m_J9_nonSyncContentEquals {l : Launch} (hst : l.stackTraces = false) {D : zD} {B0 : Nat} {E : zE} {p0 : Nat} {p1 : Nat} {h h' : zH} {r : Int32} (hf : f_J9_nonSyncContentEquals E p0 p1 h = some (r, h')) : zMet l yJ9_nonSyncContentEquals (ws_ yJ9_nonSyncContentEquals cJ9_nonSyncContentEquals 6 (Option.some Jvm.ClassFile.FieldType.boolean)) 5 164 D B0 E [.ref p0, .ref p1] h (zoI r) h' := by
  unfold f_J9_nonSyncContentEquals at hf
  refine zMet_of hst (by decide +kernel) rfl rfl (Nat.le_of_ble_eq_true rfl) (fun p e R s m below meth c C0 hno => ?_)
  show zW _ _ _ _ _ _ _ _ _ _ _ _ _ _ _ _ [(0, .ref p0), (1, .ref p1)] []
  exact w_J9_nonSyncContentEquals_b0 C0 hf
def f_J9_contentEquals_J8_b0 (E : zE) (p0 : Nat) (p1 : Nat) (h : zH) : Option (Int32 × zH) :=
  (cko h p1 18).bind fun _ =>
  if (1 : Int32) = 0 then (
    (cko h p1 18).bind fun _ =>
    none
  ) else (
    (cko h p1 18).bind fun _ =>
    if (0 : Int32) = 0 then (
      (cko h p1 18).bind fun _ =>
      (cko h p0 19).bind fun _ =>
      bnd2 (f_J9_nonSyncContentEquals E p0 p1 h) fun x10 h8 =>
      (zgd .boolean x10).bind fun _ =>
      some (x10, h8)
    ) else (
      none
    )
  )
theorem w_J9_contentEquals_J8_b0 (C0 : zCx p l e R s m args below meth c D B0 5 "java/lang/String" cJ9_contentEquals E 6 189 (Option.some Jvm.ClassFile.FieldType.boolean) "contentEquals") (ht : c.exceptionTable.toList = tableOf [((18 : Nat), (28 : Nat), (29 : Nat), (0 : Nat)), ((29 : Nat), (32 : Nat), (29 : Nat), (0 : Nat))]) {r : Int32} {h' : zH} {p0 : Nat} {p1 : Nat} {h : zH} (hf : f_J9_contentEquals_J8_b0 E p0 p1 h = some (r, h')) : zW p l e R s m args below meth c D B0 5 (zEnd D B0 R below args s (zoI r) h') h 0 [(0, .ref p0), (1, .ref p1)] [] := by
  unfold f_J9_contentEquals_J8_b0 at hf
  refine zr_aload_n C0 dJ9_contentEquals_0 rfl 1 rfl ?_
  obtain ⟨_, e1, hf⟩ := zbind hf
  refine zr_instY C0 (ci := 18) rfl (zcko e1) q1151 q3254 dJ9_contentEquals_1 ?_
  refine zr_if_eq C0 (tgt := 43) dJ9_contentEquals_4 (by decide) (fun c2 => ?_) (fun c2 => ?_)
  · have hf := zif_t c2 hf
    refine zr_aload_n C0 dJ9_contentEquals_43 rfl 1 rfl ?_
    obtain ⟨_, e3, hf⟩ := zbind hf
    cases hf
  · have hf := zif_f c2 hf
    refine zr_aload_n C0 dJ9_contentEquals_7 rfl 1 rfl ?_
    obtain ⟨_, e4, hf⟩ := zbind hf
    refine zr_instN C0 (ci := 18) rfl (zcko e4) q1152 (by decide +kernel) dJ9_contentEquals_8 ?_
    refine zr_if_eq C0 (tgt := 34) dJ9_contentEquals_11 (by decide) (fun c5 => ?_) (fun c5 => ?_)
    · have hf := zif_t c5 hf
      refine zr_aload_n C0 dJ9_contentEquals_34 rfl 0 rfl ?_
      refine zr_aload_n C0 dJ9_contentEquals_35 rfl 1 rfl ?_
      obtain ⟨_, e6, hf⟩ := zbind hf
      refine zr_cast C0 (ci := 18) rfl (zcko e6) q1151 q3254 dJ9_contentEquals_36 ?_
      obtain ⟨_, e7, hf⟩ := zbind hf
      obtain ⟨x10, h8, e9, hf⟩ := zbind2 hf
      refine zr_callV_r C0 cv_J9_567_J9 rfl (zcko e7) (m_J9_nonSyncContentEquals C0.2.2.2.2.2.2.1 e9) (by decide) (by decide) rfl rfl (Nat.le_of_ble_eq_true rfl) dJ9_contentEquals_39 rfl ?_
      obtain ⟨_, e11, hf⟩ := zbind hf
      refine zretW hf ?_
      exact zr_iret C0 (ty := .boolean) rfl (zgd_n e11) dJ9_contentEquals_42 rfl
    · have hf := zif_f c5 hf
      refine zr_aload_n C0 dJ9_contentEquals_14 rfl 1 rfl ?_
      refine zr_dup C0 dJ9_contentEquals_15 rfl ?_
      refine zr_astore_n (i := 2) (lv' := [(2, .ref p1), (0, .ref p0), (1, .ref p1)]) C0 dJ9_contentEquals_16 rfl (by decide) (by first | rfl | simp [zst1, zst2, zcat_rf]) ?_
      cases hf
def f_J9_contentEquals_J8 (E : zE) (p0 : Nat) (p1 : Nat) (h : zH) : Option (Int32 × zH) := f_J9_contentEquals_J8_b0 E p0 p1 h
theorem m_J9_contentEquals_J8 {l : Launch} (hst : l.stackTraces = false) {D : zD} {B0 : Nat} {E : zE} {p0 : Nat} {p1 : Nat} {h h' : zH} {r : Int32} (hf : f_J9_contentEquals_J8 E p0 p1 h = some (r, h')) : zMet l yJ9_contentEquals (wsW_ yJ9_contentEquals cJ9_contentEquals 5 (Option.some Jvm.ClassFile.FieldType.boolean) [((18 : Nat), (28 : Nat), (29 : Nat), (0 : Nat)), ((29 : Nat), (32 : Nat), (29 : Nat), (0 : Nat))]) 6 189 D B0 E [.ref p0, .ref p1] h (zoI r) h' := by
  unfold f_J9_contentEquals_J8 at hf
  refine zMet_ofH hst (by decide +kernel) rfl rfl (Nat.le_of_ble_eq_true rfl) (fun p e R s m below meth c C0 ht => ?_)
  show zW _ _ _ _ _ _ _ _ _ _ _ _ _ _ _ _ [(0, .ref p0), (1, .ref p1)] []
  exact w_J9_contentEquals_J8_b0 C0 ht hf
def f_X2_named_J8_l2 (E : zE) : Nat → Nat → Nat → Int32 → zH → Option (Int32 × zH)
  | 0, _, _, _, _ => none
  | n + 1, p0, p1, p2, h =>
    (gR h p0 2 1).bind fun x1 =>
    (cko h x1 15).bind fun _ =>
    bnd2 (f_J2_size E x1 h) fun x6 h4 =>
    if x6 ≤ p2 then (
      some ((-1 : Int32), h4)
    ) else (
      (gR h4 p0 2 1).bind fun x8 =>
      (cko h4 x8 15).bind fun _ =>
      bnd2 (f_J2_get E x8 p2 h4) fun x13 h11 =>
      (cko h11 x13 19).bind fun _ =>
      (cko h11 x13 19).bind fun _ =>
      bnd2 (f_J9_contentEquals_J8 E x13 p1 h11) fun x18 h16 =>
      if x18 = 0 then (
        f_X2_named_J8_l2 E n p0 p1 (p2 + 1) h16
      ) else (
        some (p2, h16)
      )
    )
theorem w_X2_named_J8_l2 (C0 : zCx p l e R s m args below meth c D B0 3 "FranchiseLedger$Rules" cX2_named E 7 213 (Option.some Jvm.ClassFile.FieldType.int) "named") {r : Int32} {h' : zH} : ∀ (n : Nat) (p0 : Nat) (p1 : Nat) (p2 : Int32) (h : zH), f_X2_named_J8_l2 E n p0 p1 p2 h = some (r, h') → zW p l e R s m args below meth c D B0 3 (zEnd D B0 R below args s (zoI r) h') h 2 [(0, .ref p0), (1, .ref p1), (2, .int p2)] [] := by
  intro n
  induction n with
  | zero =>
    intro p0 p1 p2 h hf
    unfold f_X2_named_J8_l2 at hf
    cases hf
  | succ n ih =>
    intro p0 p1 p2 h hf
    unfold f_X2_named_J8_l2 at hf
    refine zr_iload_n C0 dX2_named_2 rfl 2 rfl ?_
    refine zr_aload_n C0 dX2_named_3 rfl 0 rfl ?_
    obtain ⟨x1, e2, hf⟩ := zbind hf
    refine zr_get C0 fl_X2_20_X2 dX2_named_4 (zgR e2) ?_
    obtain ⟨_, e3, hf⟩ := zbind hf
    obtain ⟨x6, h4, e5, hf⟩ := zbind2 hf
    refine zr_callF_r C0 cv_X2_36_J2 rfl (zcko e3) (m_J2_size C0.2.2.2.2.2.2.1 e5) (by decide) (by decide) rfl rfl (Nat.le_of_ble_eq_true rfl) dX2_named_7 rfl ?_
    refine zr_icmp_ge C0 (tgt := 43) dX2_named_12 (by decide) (fun c7 => ?_) (fun c7 => ?_)
    · have hf := zif_t c7 hf
      refine zr_iconst C0 (v := -1) dX2_named_43 (by decide) ?_
      refine zretW hf ?_
      exact zr_iret C0 (ty := .int) rfl rfl dX2_named_44 rfl
    · have hf := zif_f c7 hf
      refine zr_aload_n C0 dX2_named_15 rfl 0 rfl ?_
      obtain ⟨x8, e9, hf⟩ := zbind hf
      refine zr_get C0 fl_X2_20_X2 dX2_named_16 (zgR e9) ?_
      refine zr_iload_n C0 dX2_named_19 rfl 2 rfl ?_
      obtain ⟨_, e10, hf⟩ := zbind hf
      obtain ⟨x13, h11, e12, hf⟩ := zbind2 hf
      refine zr_callF_r C0 cv_X2_42_J2 rfl (zcko e10) (m_J2_get C0.2.2.2.2.2.2.1 e12) (by decide) (by decide) rfl rfl (Nat.le_of_ble_eq_true rfl) dX2_named_20 rfl ?_
      obtain ⟨_, e14, hf⟩ := zbind hf
      refine zr_castS C0 (ci := 19) rfl (zcko e14) q1146 dX2_named_25 ?_
      refine zr_aload_n C0 dX2_named_28 rfl 1 rfl ?_
      obtain ⟨_, e15, hf⟩ := zbind hf
      obtain ⟨x18, h16, e17, hf⟩ := zbind2 hf
      refine zr_callVX_r C0 cv_X2_48_J9 rfl (zcko e15) (m_J9_contentEquals_J8 C0.2.2.2.2.2.2.1 e17) (by decide) (by decide) rfl rfl (Nat.le_of_ble_eq_true rfl) dX2_named_29 rfl ?_
      refine zr_if_eq C0 (tgt := 37) dX2_named_32 (by decide) (fun c19 => ?_) (fun c19 => ?_)
      · have hf := zif_t c19 hf
        refine zr_iinc (lv' := [(2, .int (p2 + 1)), (0, .ref p0), (1, .ref p1)]) C0 dX2_named_37 2 rfl rfl (by decide) (by first | rfl | simp [zst1, zst2, zcat_rf]) ?_
        refine zr_goto C0 (tgt := 2) dX2_named_40 (by decide) ?_
        refine zr_sub [1, 2, 0] rfl ?_
        exact ih _ _ _ _ hf
      · have hf := zif_f c19 hf
        refine zr_iload_n C0 dX2_named_35 rfl 2 rfl ?_
        refine zretW hf ?_
        exact zr_iret C0 (ty := .int) rfl rfl dX2_named_36 rfl
def f_X2_named_J8_b0 (E : zE) (p0 : Nat) (p1 : Nat) (h : zH) : Option (Int32 × zH) :=
  f_X2_named_J8_l2 E E.1 p0 p1 (0 : Int32) h
theorem w_X2_named_J8_b0 (C0 : zCx p l e R s m args below meth c D B0 3 "FranchiseLedger$Rules" cX2_named E 7 213 (Option.some Jvm.ClassFile.FieldType.int) "named") {r : Int32} {h' : zH} {p0 : Nat} {p1 : Nat} {h : zH} (hf : f_X2_named_J8_b0 E p0 p1 h = some (r, h')) : zW p l e R s m args below meth c D B0 3 (zEnd D B0 R below args s (zoI r) h') h 0 [(0, .ref p0), (1, .ref p1)] [] := by
  unfold f_X2_named_J8_b0 at hf
  refine zr_iconst C0 (v := 0) dX2_named_0 (by decide) ?_
  refine zr_istore_n (i := 2) (lv' := [(2, .int (0 : Int32)), (0, .ref p0), (1, .ref p1)]) C0 dX2_named_1 rfl (by decide) (by first | rfl | simp [zst1, zst2, zcat_rf]) ?_
  refine zr_sub [1, 2, 0] rfl ?_
  exact w_X2_named_J8_l2 C0 _ _ _ _ _ hf
def f_X2_named_J8 (E : zE) (p0 : Nat) (p1 : Nat) (h : zH) : Option (Int32 × zH) := f_X2_named_J8_b0 E p0 p1 h
theorem m_X2_named_J8 {l : Launch} (hst : l.stackTraces = false) {D : zD} {B0 : Nat} {E : zE} {p0 : Nat} {p1 : Nat} {h h' : zH} {r : Int32} (hf : f_X2_named_J8 E p0 p1 h = some (r, h')) : zMet l yX2_named (ws_ yX2_named cX2_named 3 (Option.some Jvm.ClassFile.FieldType.int)) 7 213 D B0 E [.ref p0, .ref p1] h (zoI r) h' := by
  unfold f_X2_named_J8 at hf
  refine zMet_of hst (by decide +kernel) rfl rfl (Nat.le_of_ble_eq_true rfl) (fun p e R s m below meth c C0 hno => ?_)
  show zW _ _ _ _ _ _ _ _ _ _ _ _ _ _ _ _ [(0, .ref p0), (1, .ref p1)] []
  exact w_X2_named_J8_b0 C0 hf
def f_J7_newCapacity_b0 (E : zE) (p0 : Nat) (p1 : Int32) (h : zH) : Option (Int32 × zH) :=
  (gR h p0 18 0).bind fun x1 =>
  (lenA h x1).bind fun x3 =>
  (gI h p0 18 1).bind fun x5 =>
  (gI h p0 18 1).bind fun x7 =>
  bnd2 (f_J11_newLength E x3 ((p1 <<< (x5 &&& 31)) - x3) (x3 + ((2 : Int32) <<< (x7 &&& 31))) h) fun x11 h9 =>
  if x11 = (2147483647 : Int32) then (
    none
  ) else (
    (gI h9 p0 18 1).bind fun x13 =>
    some ((x11 >>> (x13 &&& 31)), h9)
  )
theorem w_J7_newCapacity_b0 (C0 : zCx p l e R s m args below meth c D B0 6 "java/lang/AbstractStringBuilder" cJ7_newCapacity E 3 105 (Option.some Jvm.ClassFile.FieldType.int) "newCapacity") {r : Int32} {h' : zH} {p0 : Nat} {p1 : Int32} {h : zH} (hf : f_J7_newCapacity_b0 E p0 p1 h = some (r, h')) : zW p l e R s m args below meth c D B0 6 (zEnd D B0 R below args s (zoI r) h') h 0 [(0, .ref p0), (1, .int p1)] [] := by
  unfold f_J7_newCapacity_b0 at hf
  refine zr_aload_n C0 dJ7_newCapacity_0 rfl 0 rfl ?_
  obtain ⟨x1, e2, hf⟩ := zbind hf
  refine zr_get C0 fl_J7_15_J8 dJ7_newCapacity_1 (zgR e2) ?_
  obtain ⟨x3, e4, hf⟩ := zbind hf
  refine zr_alen C0 dJ7_newCapacity_4 e4 ?_
  refine zr_istore_n (i := 2) (lv' := [(2, .int x3), (0, .ref p0), (1, .int p1)]) C0 dJ7_newCapacity_5 rfl (by decide) (by first | rfl | simp [zst1, zst2, zcat_rf]) ?_
  refine zr_iload_n C0 dJ7_newCapacity_6 rfl 2 rfl ?_
  refine zr_aload_n C0 dJ7_newCapacity_7 rfl 1 rfl ?_
  obtain ⟨x5, e6, hf⟩ := zbind hf
  refine zr_get C0 fl_J7_22_J8 dJ7_newCapacity_8 (zgI e6) ?_
  refine zr_ishl C0 dJ7_newCapacity_11 ?_
  refine zr_istore_n (i := 3) (lv' := [(3, .int (p1 <<< (x5 &&& 31))), (2, .int x3), (0, .ref p0), (1, .int p1)]) C0 dJ7_newCapacity_12 rfl (by decide) (by first | rfl | simp [zst1, zst2, zcat_rf]) ?_
  refine zr_iload_n C0 dJ7_newCapacity_13 rfl 0 rfl ?_
  refine zr_iload_n C0 dJ7_newCapacity_14 rfl 1 rfl ?_
  refine zr_isub C0 dJ7_newCapacity_15 ?_
  refine zr_istore (i := 4) (lv' := [(4, .int ((p1 <<< (x5 &&& 31)) - x3)), (3, .int (p1 <<< (x5 &&& 31))), (2, .int x3), (0, .ref p0), (1, .int p1)]) C0 dJ7_newCapacity_16 (by decide) (by first | rfl | simp [zst1, zst2, zcat_rf]) ?_
  refine zr_iload_n C0 dJ7_newCapacity_18 rfl 2 rfl ?_
  refine zr_iload C0 dJ7_newCapacity_19 0 rfl ?_
  refine zr_iload_n C0 dJ7_newCapacity_21 rfl 2 rfl ?_
  refine zr_iconst C0 (v := 2) dJ7_newCapacity_22 (by decide) ?_
  refine zr_aload_n C0 dJ7_newCapacity_23 rfl 3 rfl ?_
  obtain ⟨x7, e8, hf⟩ := zbind hf
  refine zr_get C0 fl_J7_22_J8 dJ7_newCapacity_24 (zgI e8) ?_
  refine zr_ishl C0 dJ7_newCapacity_27 ?_
  refine zr_iadd C0 dJ7_newCapacity_28 ?_
  obtain ⟨x11, h9, e10, hf⟩ := zbind2 hf
  refine zr_callS_r C0 cv_J7_114 (m_J11_newLength C0.2.2.2.2.2.2.1 e10) (by decide) (by decide) rfl rfl (Nat.le_of_ble_eq_true rfl) dJ7_newCapacity_29 rfl ?_
  refine zr_istore (i := 5) (lv' := [(5, .int x11), (4, .int ((p1 <<< (x5 &&& 31)) - x3)), (3, .int (p1 <<< (x5 &&& 31))), (2, .int x3), (0, .ref p0), (1, .int p1)]) C0 dJ7_newCapacity_32 (by decide) (by first | rfl | simp [zst1, zst2, zcat_rf]) ?_
  refine zr_iload C0 dJ7_newCapacity_34 0 rfl ?_
  refine zr_ldc C0 (v := 2147483647) q313 dJ7_newCapacity_36 ?_
  refine zr_icmp_ne C0 (tgt := 51) dJ7_newCapacity_38 (by decide) (fun c12 => ?_) (fun c12 => ?_)
  · have hf := zif_f c12 hf
    refine zr_iload C0 dJ7_newCapacity_51 0 rfl ?_
    refine zr_aload_n C0 dJ7_newCapacity_53 rfl 4 rfl ?_
    obtain ⟨x13, e14, hf⟩ := zbind hf
    refine zr_get C0 fl_J7_22_J8 dJ7_newCapacity_54 (zgI e14) ?_
    refine zr_ishr C0 dJ7_newCapacity_57 ?_
    refine zretW hf ?_
    exact zr_iret C0 (ty := .int) rfl rfl dJ7_newCapacity_58 rfl
  · have hf := zif_t c12 hf
    cases hf
def f_J7_newCapacity (E : zE) (p0 : Nat) (p1 : Int32) (h : zH) : Option (Int32 × zH) := f_J7_newCapacity_b0 E p0 p1 h
theorem m_J7_newCapacity {l : Launch} (hst : l.stackTraces = false) {D : zD} {B0 : Nat} {E : zE} {p0 : Nat} {p1 : Int32} {h h' : zH} {r : Int32} (hf : f_J7_newCapacity E p0 p1 h = some (r, h')) : zMet l yJ7_newCapacity (ws_ yJ7_newCapacity cJ7_newCapacity 6 (Option.some Jvm.ClassFile.FieldType.int)) 3 105 D B0 E [.ref p0, .int p1] h (zoI r) h' := by
  unfold f_J7_newCapacity at hf
  refine zMet_of hst (by decide +kernel) rfl rfl (Nat.le_of_ble_eq_true rfl) (fun p e R s m below meth c C0 hno => ?_)
  show zW _ _ _ _ _ _ _ _ _ _ _ _ _ _ _ _ [(0, .ref p0), (1, .int p1)] []
  exact w_J7_newCapacity_b0 C0 hf
def f_J13_copyOf_b0 (E : zE) (p0 : Nat) (p1 : Int32) (h : zH) : Option (Nat × zH) :=
  (lenA h p0).bind fun x1 =>
  if p1 = x1 then (
    bnd2 (clA h p0) fun q14 h15 =>
    (cka h15 q14 2).bind fun _ =>
    some (q14, h15)
  ) else (
    bnd2 (nA h 2 p1 (.inl fun _ => 0)) fun q4 h5 =>
    (lenA h5 p0).bind fun x7 =>
    bnd2 (f_J12_min E x7 p1 h5) fun x11 h9 =>
    (cpA h9 p0 (0 : Int32) q4 (0 : Int32) x11).bind fun h12 =>
    some (q4, h12)
  )
theorem w_J13_copyOf_b0 (C0 : zCx p l e R s m args below meth c D B0 3 "java/util/Arrays" cJ13_copyOf E 2 81 (Option.some (Jvm.ClassFile.FieldType.array Jvm.ClassFile.FieldType.byte)) "copyOf") {r : Nat} {h' : zH} {p0 : Nat} {p1 : Int32} {h : zH} (hf : f_J13_copyOf_b0 E p0 p1 h = some (r, h')) : zW p l e R s m args below meth c D B0 3 (zEnd D B0 R below args s (zoR r) h') h 0 [(0, .ref p0), (1, .int p1)] [] := by
  unfold f_J13_copyOf_b0 at hf
  refine zr_iload_n C0 dJ13_copyOf_0 rfl 1 rfl ?_
  refine zr_aload_n C0 dJ13_copyOf_1 rfl 0 rfl ?_
  obtain ⟨x1, e2, hf⟩ := zbind hf
  refine zr_alen C0 dJ13_copyOf_2 e2 ?_
  refine zr_icmp_ne C0 (tgt := 14) dJ13_copyOf_3 (by decide) (fun c3 => ?_) (fun c3 => ?_)
  · have hf := zif_f c3 hf
    refine zr_iload_n C0 dJ13_copyOf_14 rfl 1 rfl ?_
    obtain ⟨q4, h5, e6, hf⟩ := zbind2 hf
    refine zr_newa C0 (atype := .byte) (t := 2) q282 rfl (by decide) (fun _ => rfl) dJ13_copyOf_15 e6 ?_
    refine zr_astore_n (i := 2) (lv' := [(2, .ref q4), (0, .ref p0), (1, .int p1)]) C0 dJ13_copyOf_17 rfl (by decide) (by first | rfl | simp [zst1, zst2, zcat_rf]) ?_
    refine zr_aload_n C0 dJ13_copyOf_18 rfl 1 rfl ?_
    refine zr_iconst C0 (v := 0) dJ13_copyOf_19 (by decide) ?_
    refine zr_aload_n C0 dJ13_copyOf_20 rfl 0 rfl ?_
    refine zr_iconst C0 (v := 0) dJ13_copyOf_21 (by decide) ?_
    refine zr_aload_n C0 dJ13_copyOf_22 rfl 1 rfl ?_
    obtain ⟨x7, e8, hf⟩ := zbind hf
    refine zr_alen C0 dJ13_copyOf_23 e8 ?_
    refine zr_iload_n C0 dJ13_copyOf_24 rfl 2 rfl ?_
    obtain ⟨x11, h9, e10, hf⟩ := zbind2 hf
    refine zr_callS_r C0 cv_J13_304 (m_J12_min C0.2.2.2.2.2.2.1 e10) (by decide) (by decide) rfl rfl (Nat.le_of_ble_eq_true rfl) dJ13_copyOf_25 rfl ?_
    obtain ⟨h12, e13, hf⟩ := zbind hf
    refine zr_copy C0 q327 (by decide) (Nat.le_of_ble_eq_true rfl) dJ13_copyOf_28 e13 ?_
    refine zr_aload_n C0 dJ13_copyOf_31 rfl 0 rfl ?_
    refine zretW hf ?_
    exact zr_aret C0 rfl (Or.inr ⟨_, rfl⟩) dJ13_copyOf_32 rfl
  · have hf := zif_t c3 hf
    refine zr_aload_n C0 dJ13_copyOf_6 rfl 0 rfl ?_
    obtain ⟨q14, h15, e16, hf⟩ := zbind2 hf
    refine zr_clone C0 q317 (by decide) (Nat.le_of_ble_eq_true rfl) dJ13_copyOf_7 e16 ?_
    obtain ⟨_, e17, hf⟩ := zbind hf
    refine zr_castA C0 (t := 2) (by decide) (zcka e17) rfl q323 dJ13_copyOf_10 ?_
    refine zretW hf ?_
    exact zr_aret C0 rfl (Or.inr ⟨_, rfl⟩) dJ13_copyOf_13 rfl
def f_J13_copyOf (E : zE) (p0 : Nat) (p1 : Int32) (h : zH) : Option (Nat × zH) := f_J13_copyOf_b0 E p0 p1 h
theorem m_J13_copyOf {l : Launch} (hst : l.stackTraces = false) {D : zD} {B0 : Nat} {E : zE} {p0 : Nat} {p1 : Int32} {h h' : zH} {r : Nat} (hf : f_J13_copyOf E p0 p1 h = some (r, h')) : zMet l yJ13_copyOf (ws_ yJ13_copyOf cJ13_copyOf 3 (Option.some (Jvm.ClassFile.FieldType.array Jvm.ClassFile.FieldType.byte))) 2 81 D B0 E [.ref p0, .int p1] h (zoR r) h' := by
  unfold f_J13_copyOf at hf
  refine zMet_of hst (by decide +kernel) rfl rfl (Nat.le_of_ble_eq_true rfl) (fun p e R s m below meth c C0 hno => ?_)
  show zW _ _ _ _ _ _ _ _ _ _ _ _ _ _ _ _ [(0, .ref p0), (1, .int p1)] []
  exact w_J13_copyOf_b0 C0 hf
def f_J7_ensureCapacityInternal_b38 (E : zE) (h : zH) : Option (Unit × zH) :=
  some ((), h)
theorem w_J7_ensureCapacityInternal_b38 (C0 : zCx p l e R s m args below meth c D B0 3 "java/lang/AbstractStringBuilder" cJ7_ensureCapacityInternal E 4 130 (Option.none : Option Jvm.ClassFile.FieldType) "ensureCapacityInternal") {r : Unit} {h' : zH} {h : zH} (hf : f_J7_ensureCapacityInternal_b38 E  h = some (r, h')) : zW p l e R s m args below meth c D B0 3 (zEnd D B0 R below args s (zoV r) h') h 38 [] [] := by
  unfold f_J7_ensureCapacityInternal_b38 at hf
  refine zretW hf ?_
  exact zr_vret C0 rfl dJ7_ensureCapacityInternal_38 rfl
def f_J7_ensureCapacityInternal_b0 (E : zE) (p0 : Nat) (p1 : Int32) (h : zH) : Option (Unit × zH) :=
  (gR h p0 18 0).bind fun x1 =>
  (lenA h x1).bind fun x3 =>
  (gI h p0 18 1).bind fun x5 =>
  if (p1 - (x3 >>> (x5 &&& 31))) ≤ 0 then (
    f_J7_ensureCapacityInternal_b38 E  h
  ) else (
    (gR h p0 18 0).bind fun x8 =>
    (cko h p0 18).bind fun _ =>
    bnd2 (f_J7_newCapacity E p0 p1 h) fun x13 h11 =>
    (gI h11 p0 18 1).bind fun x14 =>
    bnd2 (f_J13_copyOf E x8 (x13 <<< (x14 &&& 31)) h11) fun x18 h16 =>
    (pF h16 p0 18 0 (.ref x18)).bind fun h19 =>
    f_J7_ensureCapacityInternal_b38 E  h19
  )
theorem w_J7_ensureCapacityInternal_b0 (C0 : zCx p l e R s m args below meth c D B0 3 "java/lang/AbstractStringBuilder" cJ7_ensureCapacityInternal E 4 130 (Option.none : Option Jvm.ClassFile.FieldType) "ensureCapacityInternal") {r : Unit} {h' : zH} {p0 : Nat} {p1 : Int32} {h : zH} (hf : f_J7_ensureCapacityInternal_b0 E p0 p1 h = some (r, h')) : zW p l e R s m args below meth c D B0 3 (zEnd D B0 R below args s (zoV r) h') h 0 [(0, .ref p0), (1, .int p1)] [] := by
  unfold f_J7_ensureCapacityInternal_b0 at hf
  refine zr_aload_n C0 dJ7_ensureCapacityInternal_0 rfl 0 rfl ?_
  obtain ⟨x1, e2, hf⟩ := zbind hf
  refine zr_get C0 fl_J7_15_J8 dJ7_ensureCapacityInternal_1 (zgR e2) ?_
  obtain ⟨x3, e4, hf⟩ := zbind hf
  refine zr_alen C0 dJ7_ensureCapacityInternal_4 e4 ?_
  refine zr_aload_n C0 dJ7_ensureCapacityInternal_5 rfl 0 rfl ?_
  obtain ⟨x5, e6, hf⟩ := zbind hf
  refine zr_get C0 fl_J7_22_J8 dJ7_ensureCapacityInternal_6 (zgI e6) ?_
  refine zr_ishr C0 dJ7_ensureCapacityInternal_9 ?_
  refine zr_istore_n (i := 2) (lv' := [(2, .int (x3 >>> (x5 &&& 31))), (0, .ref p0), (1, .int p1)]) C0 dJ7_ensureCapacityInternal_10 rfl (by decide) (by first | rfl | simp [zst1, zst2, zcat_rf]) ?_
  refine zr_iload_n C0 dJ7_ensureCapacityInternal_11 rfl 2 rfl ?_
  refine zr_iload_n C0 dJ7_ensureCapacityInternal_12 rfl 0 rfl ?_
  refine zr_isub C0 dJ7_ensureCapacityInternal_13 ?_
  refine zr_if_le C0 (tgt := 38) dJ7_ensureCapacityInternal_14 (by decide) (fun c7 => ?_) (fun c7 => ?_)
  · have hf := zif_t c7 hf
    refine zr_sub [] rfl ?_
    exact w_J7_ensureCapacityInternal_b38 C0 hf
  · have hf := zif_f c7 hf
    refine zr_aload_n C0 dJ7_ensureCapacityInternal_17 rfl 1 rfl ?_
    refine zr_aload_n C0 dJ7_ensureCapacityInternal_18 rfl 1 rfl ?_
    obtain ⟨x8, e9, hf⟩ := zbind hf
    refine zr_get C0 fl_J7_15_J8 dJ7_ensureCapacityInternal_19 (zgR e9) ?_
    refine zr_aload_n C0 dJ7_ensureCapacityInternal_22 rfl 1 rfl ?_
    refine zr_iload_n C0 dJ7_ensureCapacityInternal_23 rfl 2 rfl ?_
    obtain ⟨_, e10, hf⟩ := zbind hf
    obtain ⟨x13, h11, e12, hf⟩ := zbind2 hf
    refine zr_callO_r C0 cv_J7_104_J8 rfl (zcko e10) (m_J7_newCapacity C0.2.2.2.2.2.2.1 e12) (by decide) (by decide) rfl rfl (Nat.le_of_ble_eq_true rfl) dJ7_ensureCapacityInternal_24 rfl ?_
    refine zr_aload_n C0 dJ7_ensureCapacityInternal_27 rfl 1 rfl ?_
    obtain ⟨x14, e15, hf⟩ := zbind hf
    refine zr_get C0 fl_J7_22_J8 dJ7_ensureCapacityInternal_28 (zgI e15) ?_
    refine zr_ishl C0 dJ7_ensureCapacityInternal_31 ?_
    obtain ⟨x18, h16, e17, hf⟩ := zbind2 hf
    refine zr_callS_r C0 cv_J7_108 (m_J13_copyOf C0.2.2.2.2.2.2.1 e17) (by decide) (by decide) rfl rfl (Nat.le_of_ble_eq_true rfl) dJ7_ensureCapacityInternal_32 rfl ?_
    obtain ⟨h19, e20, hf⟩ := zbind hf
    refine zr_put C0 pl_J7_15_J8 dJ7_ensureCapacityInternal_35 (fun h => by cases h) rfl rfl e20 ?_
    refine zr_sub [] rfl ?_
    exact w_J7_ensureCapacityInternal_b38 C0 hf
def f_J7_ensureCapacityInternal (E : zE) (p0 : Nat) (p1 : Int32) (h : zH) : Option (Unit × zH) := f_J7_ensureCapacityInternal_b0 E p0 p1 h
theorem m_J7_ensureCapacityInternal {l : Launch} (hst : l.stackTraces = false) {D : zD} {B0 : Nat} {E : zE} {p0 : Nat} {p1 : Int32} {h h' : zH} {r : Unit} (hf : f_J7_ensureCapacityInternal E p0 p1 h = some (r, h')) : zMet l yJ7_ensureCapacityInternal (ws_ yJ7_ensureCapacityInternal cJ7_ensureCapacityInternal 3 (Option.none : Option Jvm.ClassFile.FieldType)) 4 130 D B0 E [.ref p0, .int p1] h (zoV r) h' := by
  unfold f_J7_ensureCapacityInternal at hf
  refine zMet_of hst (by decide +kernel) rfl rfl (Nat.le_of_ble_eq_true rfl) (fun p e R s m below meth c C0 hno => ?_)
  show zW _ _ _ _ _ _ _ _ _ _ _ _ _ _ _ _ [(0, .ref p0), (1, .int p1)] []
  exact w_J7_ensureCapacityInternal_b0 C0 hf
def f_J7_isLatin1_b18 (E : zE) (s0 : Int32) (h : zH) : Option (Int32 × zH) :=
  (zgd .boolean s0).bind fun _ =>
  some (s0, h)
theorem w_J7_isLatin1_b18 (C0 : zCx p l e R s m args below meth c D B0 1 "java/lang/AbstractStringBuilder" cJ7_isLatin1 E 1 60 (Option.some Jvm.ClassFile.FieldType.boolean) "isLatin1") {r : Int32} {h' : zH} {s0 : Int32} {h : zH} (hf : f_J7_isLatin1_b18 E s0 h = some (r, h')) : zW p l e R s m args below meth c D B0 1 (zEnd D B0 R below args s (zoI r) h') h 18 [] [.int s0] := by
  unfold f_J7_isLatin1_b18 at hf
  obtain ⟨_, e1, hf⟩ := zbind hf
  refine zretW hf ?_
  exact zr_iret C0 (ty := .boolean) rfl (zgd_n e1) dJ7_isLatin1_18 rfl
def f_J7_isLatin1_b17 (E : zE) (h : zH) : Option (Int32 × zH) :=
  f_J7_isLatin1_b18 E (0 : Int32) h
theorem w_J7_isLatin1_b17 (C0 : zCx p l e R s m args below meth c D B0 1 "java/lang/AbstractStringBuilder" cJ7_isLatin1 E 1 60 (Option.some Jvm.ClassFile.FieldType.boolean) "isLatin1") {r : Int32} {h' : zH} {h : zH} (hf : f_J7_isLatin1_b17 E  h = some (r, h')) : zW p l e R s m args below meth c D B0 1 (zEnd D B0 R below args s (zoI r) h') h 17 [] [] := by
  unfold f_J7_isLatin1_b17 at hf
  refine zr_iconst C0 (v := 0) dJ7_isLatin1_17 (by decide) ?_
  exact w_J7_isLatin1_b18 C0 hf
def f_J7_isLatin1_b0 (E : zE) (p0 : Nat) (h : zH) : Option (Int32 × zH) :=
  if (1 : Int32) = 0 then (
    f_J7_isLatin1_b17 E  h
  ) else (
    (gI h p0 18 1).bind fun x2 =>
    if x2 = 0 then (
      f_J7_isLatin1_b18 E (1 : Int32) h
    ) else (
      f_J7_isLatin1_b17 E  h
    )
  )
theorem w_J7_isLatin1_b0 (C0 : zCx p l e R s m args below meth c D B0 1 "java/lang/AbstractStringBuilder" cJ7_isLatin1 E 1 60 (Option.some Jvm.ClassFile.FieldType.boolean) "isLatin1") {r : Int32} {h' : zH} {p0 : Nat} {h : zH} (hf : f_J7_isLatin1_b0 E p0 h = some (r, h')) : zW p l e R s m args below meth c D B0 1 (zEnd D B0 R below args s (zoI r) h') h 0 [(0, .ref p0)] [] := by
  unfold f_J7_isLatin1_b0 at hf
  refine zr_gets C0 (C0.2.2.2.2.2.2.2.2.2.1.2.2.1 _ (List.mem_of_getElem? (i := 0) rfl)) q259 dJ7_isLatin1_0 ?_
  refine zr_if_eq C0 (tgt := 17) dJ7_isLatin1_3 (by decide) (fun c1 => ?_) (fun c1 => ?_)
  · have hf := zif_t c1 hf
    refine zr_sub [] rfl ?_
    exact w_J7_isLatin1_b17 C0 hf
  · have hf := zif_f c1 hf
    refine zr_aload_n C0 dJ7_isLatin1_6 rfl 0 rfl ?_
    obtain ⟨x2, e3, hf⟩ := zbind hf
    refine zr_get C0 fl_J7_22_J8 dJ7_isLatin1_7 (zgI e3) ?_
    refine zr_if_ne C0 (tgt := 17) dJ7_isLatin1_10 (by decide) (fun c4 => ?_) (fun c4 => ?_)
    · have hf := zif_f c4 hf
      refine zr_sub [] rfl ?_
      exact w_J7_isLatin1_b17 C0 hf
    · have hf := zif_t c4 hf
      refine zr_iconst C0 (v := 1) dJ7_isLatin1_13 (by decide) ?_
      refine zr_goto C0 (tgt := 18) dJ7_isLatin1_14 (by decide) ?_
      refine zr_sub [] rfl ?_
      exact w_J7_isLatin1_b18 C0 hf
def f_J7_isLatin1 (E : zE) (p0 : Nat) (h : zH) : Option (Int32 × zH) := f_J7_isLatin1_b0 E p0 h
theorem m_J7_isLatin1 {l : Launch} (hst : l.stackTraces = false) {D : zD} {B0 : Nat} {E : zE} {p0 : Nat} {h h' : zH} {r : Int32} (hf : f_J7_isLatin1 E p0 h = some (r, h')) : zMet l yJ7_isLatin1 (ws_ yJ7_isLatin1 cJ7_isLatin1 1 (Option.some Jvm.ClassFile.FieldType.boolean)) 1 60 D B0 E [.ref p0] h (zoI r) h' := by
  unfold f_J7_isLatin1 at hf
  refine zMet_of hst (by decide +kernel) rfl rfl (Nat.le_of_ble_eq_true rfl) (fun p e R s m below meth c C0 hno => ?_)
  show zW _ _ _ _ _ _ _ _ _ _ _ _ _ _ _ _ [(0, .ref p0)] []
  exact w_J7_isLatin1_b0 C0 hf
def f_J15_canEncode_b12 (E : zE) (s0 : Int32) (h : zH) : Option (Int32 × zH) :=
  (zgd .boolean s0).bind fun _ =>
  some (s0, h)
theorem w_J15_canEncode_b12 (C0 : zCx p l e R s m args below meth c D B0 1 "java/lang/StringLatin1" cJ15_canEncode E 1 60 (Option.some Jvm.ClassFile.FieldType.boolean) "canEncode") {r : Int32} {h' : zH} {s0 : Int32} {h : zH} (hf : f_J15_canEncode_b12 E s0 h = some (r, h')) : zW p l e R s m args below meth c D B0 1 (zEnd D B0 R below args s (zoI r) h') h 12 [] [.int s0] := by
  unfold f_J15_canEncode_b12 at hf
  obtain ⟨_, e1, hf⟩ := zbind hf
  refine zretW hf ?_
  exact zr_iret C0 (ty := .boolean) rfl (zgd_n e1) dJ15_canEncode_12 rfl
def f_J15_canEncode_b0 (E : zE) (p0 : Int32) (h : zH) : Option (Int32 × zH) :=
  if (255 : Int32) < p0 then (
    f_J15_canEncode_b12 E (0 : Int32) h
  ) else (
    f_J15_canEncode_b12 E (1 : Int32) h
  )
theorem w_J15_canEncode_b0 (C0 : zCx p l e R s m args below meth c D B0 1 "java/lang/StringLatin1" cJ15_canEncode E 1 60 (Option.some Jvm.ClassFile.FieldType.boolean) "canEncode") {r : Int32} {h' : zH} {p0 : Int32} {h : zH} (hf : f_J15_canEncode_b0 E p0 h = some (r, h')) : zW p l e R s m args below meth c D B0 1 (zEnd D B0 R below args s (zoI r) h') h 0 [(0, .int p0)] [] := by
  unfold f_J15_canEncode_b0 at hf
  refine zr_iload_n C0 dJ15_canEncode_0 rfl 0 rfl ?_
  refine zr_sipush C0 (v := 255) dJ15_canEncode_1 (by decide) ?_
  refine zr_icmp_gt C0 (tgt := 11) dJ15_canEncode_4 (by decide) (fun c1 => ?_) (fun c1 => ?_)
  · have hf := zif_t c1 hf
    refine zr_iconst C0 (v := 0) dJ15_canEncode_11 (by decide) ?_
    refine zr_sub [] rfl ?_
    exact w_J15_canEncode_b12 C0 hf
  · have hf := zif_f c1 hf
    refine zr_iconst C0 (v := 1) dJ15_canEncode_7 (by decide) ?_
    refine zr_goto C0 (tgt := 12) dJ15_canEncode_8 (by decide) ?_
    refine zr_sub [] rfl ?_
    exact w_J15_canEncode_b12 C0 hf
def f_J15_canEncode (E : zE) (p0 : Int32) (h : zH) : Option (Int32 × zH) := f_J15_canEncode_b0 E p0 h
theorem m_J15_canEncode {l : Launch} (hst : l.stackTraces = false) {D : zD} {B0 : Nat} {E : zE} {p0 : Int32} {h h' : zH} {r : Int32} (hf : f_J15_canEncode E p0 h = some (r, h')) : zMet l yJ15_canEncode (ws_ yJ15_canEncode cJ15_canEncode 1 (Option.some Jvm.ClassFile.FieldType.boolean)) 1 60 D B0 E [.int p0] h (zoI r) h' := by
  unfold f_J15_canEncode at hf
  refine zMet_of hst (by decide +kernel) rfl rfl (Nat.le_of_ble_eq_true rfl) (fun p e R s m below meth c C0 hno => ?_)
  show zW _ _ _ _ _ _ _ _ _ _ _ _ _ _ _ _ [(0, .int p0)] []
  exact w_J15_canEncode_b0 C0 hf
def f_J10_checkIndex_b0 (E : zE) (p0 : Int32) (p1 : Nat) (h : zH) : Option (Unit × zH) :=
  bnd2 (f_J10_length E p1 h) fun x3 h1 =>
  bnd2 (f_J9_checkIndex E p0 x3 h1) fun x6 h4 =>
  some ((), h4)
theorem w_J10_checkIndex_b0 (C0 : zCx p l e R s m args below meth c D B0 2 "java/lang/StringUTF16" cJ10_checkIndex E 3 103 (Option.none : Option Jvm.ClassFile.FieldType) "checkIndex") {r : Unit} {h' : zH} {p0 : Int32} {p1 : Nat} {h : zH} (hf : f_J10_checkIndex_b0 E p0 p1 h = some (r, h')) : zW p l e R s m args below meth c D B0 2 (zEnd D B0 R below args s (zoV r) h') h 0 [(0, .int p0), (1, .ref p1)] [] := by
  unfold f_J10_checkIndex_b0 at hf
  refine zr_iload_n C0 dJ10_checkIndex_0 rfl 0 rfl ?_
  refine zr_aload_n C0 dJ10_checkIndex_1 rfl 1 rfl ?_
  obtain ⟨x3, h1, e2, hf⟩ := zbind2 hf
  refine zr_callS_r C0 cv_J10_48 (m_J10_length C0.2.2.2.2.2.2.1 e2) (by decide) (by decide) rfl rfl (Nat.le_of_ble_eq_true rfl) dJ10_checkIndex_2 rfl ?_
  obtain ⟨x6, h4, e5, hf⟩ := zbind2 hf
  refine zr_callS_r C0 cv_J10_414 (m_J9_checkIndex C0.2.2.2.2.2.2.1 e5) (by decide) (by decide) rfl rfl (Nat.le_of_ble_eq_true rfl) dJ10_checkIndex_5 rfl ?_
  refine zretW hf ?_
  exact zr_vret C0 rfl dJ10_checkIndex_8 rfl
def f_J10_checkIndex (E : zE) (p0 : Int32) (p1 : Nat) (h : zH) : Option (Unit × zH) := f_J10_checkIndex_b0 E p0 p1 h
theorem m_J10_checkIndex {l : Launch} (hst : l.stackTraces = false) {D : zD} {B0 : Nat} {E : zE} {p0 : Int32} {p1 : Nat} {h h' : zH} {r : Unit} (hf : f_J10_checkIndex E p0 p1 h = some (r, h')) : zMet l yJ10_checkIndex (ws_ yJ10_checkIndex cJ10_checkIndex 2 (Option.none : Option Jvm.ClassFile.FieldType)) 3 103 D B0 E [.int p0, .ref p1] h (zoV r) h' := by
  unfold f_J10_checkIndex at hf
  refine zMet_of hst (by decide +kernel) rfl rfl (Nat.le_of_ble_eq_true rfl) (fun p e R s m below meth c C0 hno => ?_)
  show zW _ _ _ _ _ _ _ _ _ _ _ _ _ _ _ _ [(0, .int p0), (1, .ref p1)] []
  exact w_J10_checkIndex_b0 C0 hf
def f_J10_putChar_b0 (E : zE) (p0 : Nat) (p1 : Int32) (p2 : Int32) (h : zH) : Option (Unit × zH) :=
  none
theorem w_J10_putChar_b0 (C0 : zCx p l e R s m args below meth c D B0 3 "java/lang/StringUTF16" cJ10_putChar E 1 60 (Option.none : Option Jvm.ClassFile.FieldType) "putChar") {r : Unit} {h' : zH} {p0 : Nat} {p1 : Int32} {p2 : Int32} {h : zH} (hf : f_J10_putChar_b0 E p0 p1 p2 h = some (r, h')) : zW p l e R s m args below meth c D B0 3 (zEnd D B0 R below args s (zoV r) h') h 0 [(0, .ref p0), (1, .int p1), (2, .int p2)] [] := by
  unfold f_J10_putChar_b0 at hf
  cases hf
def f_J10_putChar (E : zE) (p0 : Nat) (p1 : Int32) (p2 : Int32) (h : zH) : Option (Unit × zH) := f_J10_putChar_b0 E p0 p1 p2 h
theorem m_J10_putChar {l : Launch} (hst : l.stackTraces = false) {D : zD} {B0 : Nat} {E : zE} {p0 : Nat} {p1 : Int32} {p2 : Int32} {h h' : zH} {r : Unit} (hf : f_J10_putChar E p0 p1 p2 h = some (r, h')) : zMet l yJ10_putChar (ws_ yJ10_putChar cJ10_putChar 3 (Option.none : Option Jvm.ClassFile.FieldType)) 1 60 D B0 E [.ref p0, .int p1, .int p2] h (zoV r) h' := by
  unfold f_J10_putChar at hf
  refine zMet_of hst (by decide +kernel) rfl rfl (Nat.le_of_ble_eq_true rfl) (fun p e R s m below meth c C0 hno => ?_)
  show zW _ _ _ _ _ _ _ _ _ _ _ _ _ _ _ _ [(0, .ref p0), (1, .int p1), (2, .int p2)] []
  exact w_J10_putChar_b0 C0 hf
def f_J10_putCharSB_b0 (E : zE) (p0 : Nat) (p1 : Int32) (p2 : Int32) (h : zH) : Option (Unit × zH) :=
  bnd2 (f_J10_checkIndex E p1 p0 h) fun x3 h1 =>
  bnd2 (f_J10_putChar E p0 p1 p2 h1) fun x6 h4 =>
  some ((), h4)
theorem w_J10_putCharSB_b0 (C0 : zCx p l e R s m args below meth c D B0 3 "java/lang/StringUTF16" cJ10_putCharSB E 4 124 (Option.none : Option Jvm.ClassFile.FieldType) "putCharSB") {r : Unit} {h' : zH} {p0 : Nat} {p1 : Int32} {p2 : Int32} {h : zH} (hf : f_J10_putCharSB_b0 E p0 p1 p2 h = some (r, h')) : zW p l e R s m args below meth c D B0 3 (zEnd D B0 R below args s (zoV r) h') h 0 [(0, .ref p0), (1, .int p1), (2, .int p2)] [] := by
  unfold f_J10_putCharSB_b0 at hf
  refine zr_iload_n C0 dJ10_putCharSB_0 rfl 1 rfl ?_
  refine zr_aload_n C0 dJ10_putCharSB_1 rfl 0 rfl ?_
  obtain ⟨x3, h1, e2, hf⟩ := zbind2 hf
  refine zr_callS_r C0 cv_J10_67 (m_J10_checkIndex C0.2.2.2.2.2.2.1 e2) (by decide) (by decide) rfl rfl (Nat.le_of_ble_eq_true rfl) dJ10_putCharSB_2 rfl ?_
  refine zr_aload_n C0 dJ10_putCharSB_5 rfl 0 rfl ?_
  refine zr_iload_n C0 dJ10_putCharSB_6 rfl 1 rfl ?_
  refine zr_iload_n C0 dJ10_putCharSB_7 rfl 2 rfl ?_
  obtain ⟨x6, h4, e5, hf⟩ := zbind2 hf
  refine zr_callS_r C0 cv_J10_111 (m_J10_putChar C0.2.2.2.2.2.2.1 e5) (by decide) (by decide) rfl rfl (Nat.le_of_ble_eq_true rfl) dJ10_putCharSB_8 rfl ?_
  refine zretW hf ?_
  exact zr_vret C0 rfl dJ10_putCharSB_11 rfl
def f_J10_putCharSB (E : zE) (p0 : Nat) (p1 : Int32) (p2 : Int32) (h : zH) : Option (Unit × zH) := f_J10_putCharSB_b0 E p0 p1 p2 h
theorem m_J10_putCharSB {l : Launch} (hst : l.stackTraces = false) {D : zD} {B0 : Nat} {E : zE} {p0 : Nat} {p1 : Int32} {p2 : Int32} {h h' : zH} {r : Unit} (hf : f_J10_putCharSB E p0 p1 p2 h = some (r, h')) : zMet l yJ10_putCharSB (ws_ yJ10_putCharSB cJ10_putCharSB 3 (Option.none : Option Jvm.ClassFile.FieldType)) 4 124 D B0 E [.ref p0, .int p1, .int p2] h (zoV r) h' := by
  unfold f_J10_putCharSB at hf
  refine zMet_of hst (by decide +kernel) rfl rfl (Nat.le_of_ble_eq_true rfl) (fun p e R s m below meth c C0 hno => ?_)
  show zW _ _ _ _ _ _ _ _ _ _ _ _ _ _ _ _ [(0, .ref p0), (1, .int p1), (2, .int p2)] []
  exact w_J10_putCharSB_b0 C0 hf
def f_J7_append_3_b75 (E : zE) (p0 : Nat) (h : zH) : Option (Nat × zH) :=
  some (p0, h)
theorem w_J7_append_3_b75 (C0 : zCx p l e R s m args below meth c D B0 2 "java/lang/AbstractStringBuilder" cJ7_append_3 E 5 152 (Option.some (Jvm.ClassFile.FieldType.object "java/lang/AbstractStringBuilder")) "append") {r : Nat} {h' : zH} {p0 : Nat} {h : zH} (hf : f_J7_append_3_b75 E p0 h = some (r, h')) : zW p l e R s m args below meth c D B0 2 (zEnd D B0 R below args s (zoR r) h') h 75 [(0, .ref p0)] [] := by
  unfold f_J7_append_3_b75 at hf
  refine zr_aload_n C0 dJ7_append_3_75 rfl 0 rfl ?_
  refine zretW hf ?_
  exact zr_aret C0 rfl (Or.inl ⟨_, rfl⟩) dJ7_append_3_76 rfl
def f_J7_append_3_b56 (E : zE) (p0 : Nat) (p1 : Int32) (h : zH) : Option (Nat × zH) :=
  (gR h p0 18 0).bind fun x1 =>
  (gI h p0 18 3).bind fun x3 =>
  (pF h p0 18 3 (.int (x3 + (1 : Int32)))).bind fun h5 =>
  bnd2 (f_J10_putCharSB E x1 x3 p1 h5) fun x9 h7 =>
  f_J7_append_3_b75 E p0 h7
theorem w_J7_append_3_b56 (C0 : zCx p l e R s m args below meth c D B0 2 "java/lang/AbstractStringBuilder" cJ7_append_3 E 5 152 (Option.some (Jvm.ClassFile.FieldType.object "java/lang/AbstractStringBuilder")) "append") {r : Nat} {h' : zH} {p0 : Nat} {p1 : Int32} {h : zH} (hf : f_J7_append_3_b56 E p0 p1 h = some (r, h')) : zW p l e R s m args below meth c D B0 2 (zEnd D B0 R below args s (zoR r) h') h 56 [(0, .ref p0), (1, .int p1)] [] := by
  unfold f_J7_append_3_b56 at hf
  refine zr_aload_n C0 dJ7_append_3_56 rfl 0 rfl ?_
  obtain ⟨x1, e2, hf⟩ := zbind hf
  refine zr_get C0 fl_J7_15_J8 dJ7_append_3_57 (zgR e2) ?_
  refine zr_aload_n C0 dJ7_append_3_60 rfl 0 rfl ?_
  refine zr_dup C0 dJ7_append_3_61 rfl ?_
  obtain ⟨x3, e4, hf⟩ := zbind hf
  refine zr_get C0 fl_J7_79_J8 dJ7_append_3_62 (zgI e4) ?_
  refine zr_dup_x1 C0 dJ7_append_3_65 rfl rfl ?_
  refine zr_iconst C0 (v := 1) dJ7_append_3_66 (by decide) ?_
  refine zr_iadd C0 dJ7_append_3_67 ?_
  obtain ⟨h5, e6, hf⟩ := zbind hf
  refine zr_put C0 pl_J7_79_J8 dJ7_append_3_68 (fun h => by cases h) rfl rfl e6 ?_
  refine zr_iload_n C0 dJ7_append_3_71 rfl 1 rfl ?_
  obtain ⟨x9, h7, e8, hf⟩ := zbind2 hf
  refine zr_callS_r C0 cv_J7_197 (m_J10_putCharSB C0.2.2.2.2.2.2.1 e8) (by decide) (by decide) rfl rfl (Nat.le_of_ble_eq_true rfl) dJ7_append_3_72 rfl ?_
  refine zr_sub [0] rfl ?_
  exact w_J7_append_3_b75 C0 hf
def f_J7_append_3_b45 (E : zE) (p0 : Nat) (p1 : Int32) (h : zH) : Option (Nat × zH) :=
  (cko h p0 18).bind fun _ =>
  bnd2 (f_J7_isLatin1 E p0 h) fun x4 h2 =>
  if x4 = 0 then (
    f_J7_append_3_b56 E p0 p1 h2
  ) else (
    none
  )
theorem w_J7_append_3_b45 (C0 : zCx p l e R s m args below meth c D B0 2 "java/lang/AbstractStringBuilder" cJ7_append_3 E 5 152 (Option.some (Jvm.ClassFile.FieldType.object "java/lang/AbstractStringBuilder")) "append") {r : Nat} {h' : zH} {p0 : Nat} {p1 : Int32} {h : zH} (hf : f_J7_append_3_b45 E p0 p1 h = some (r, h')) : zW p l e R s m args below meth c D B0 2 (zEnd D B0 R below args s (zoR r) h') h 45 [(0, .ref p0), (1, .int p1)] [] := by
  unfold f_J7_append_3_b45 at hf
  refine zr_aload_n C0 dJ7_append_3_45 rfl 0 rfl ?_
  obtain ⟨_, e1, hf⟩ := zbind hf
  obtain ⟨x4, h2, e3, hf⟩ := zbind2 hf
  refine zr_callU_r C0 cv_J7_83_J8 rfl (zcko e1) (m_J7_isLatin1 C0.2.2.2.2.2.2.1 e3) (by decide) (by decide) rfl rfl (Nat.le_of_ble_eq_true rfl) dJ7_append_3_46 rfl ?_
  refine zr_if_eq C0 (tgt := 56) dJ7_append_3_49 (by decide) (fun c5 => ?_) (fun c5 => ?_)
  · have hf := zif_t c5 hf
    exact w_J7_append_3_b56 C0 hf
  · have hf := zif_f c5 hf
    refine zr_aload_n C0 dJ7_append_3_52 rfl 0 rfl ?_
    cases hf
def f_J7_append_3_b0 (E : zE) (p0 : Nat) (p1 : Int32) (h : zH) : Option (Nat × zH) :=
  (gI h p0 18 3).bind fun x1 =>
  (cko h p0 18).bind fun _ =>
  bnd2 (f_J7_ensureCapacityInternal E p0 (x1 + (1 : Int32)) h) fun x6 h4 =>
  (cko h4 p0 18).bind fun _ =>
  bnd2 (f_J7_isLatin1 E p0 h4) fun x10 h8 =>
  if x10 = 0 then (
    f_J7_append_3_b45 E p0 p1 h8
  ) else (
    bnd2 (f_J15_canEncode E p1 h8) fun x14 h12 =>
    if x14 = 0 then (
      f_J7_append_3_b45 E p0 p1 h12
    ) else (
      (gR h12 p0 18 0).bind fun x16 =>
      (gI h12 p0 18 3).bind fun x18 =>
      (pF h12 p0 18 3 (.int (x18 + (1 : Int32)))).bind fun h20 =>
      (sI h20 x16 2 x18 ((p1.toInt8.toInt32).toInt8.toInt32)).bind fun h22 =>
      f_J7_append_3_b75 E p0 h22
    )
  )
theorem w_J7_append_3_b0 (C0 : zCx p l e R s m args below meth c D B0 2 "java/lang/AbstractStringBuilder" cJ7_append_3 E 5 152 (Option.some (Jvm.ClassFile.FieldType.object "java/lang/AbstractStringBuilder")) "append") {r : Nat} {h' : zH} {p0 : Nat} {p1 : Int32} {h : zH} (hf : f_J7_append_3_b0 E p0 p1 h = some (r, h')) : zW p l e R s m args below meth c D B0 2 (zEnd D B0 R below args s (zoR r) h') h 0 [(0, .ref p0), (1, .int p1)] [] := by
  unfold f_J7_append_3_b0 at hf
  refine zr_aload_n C0 dJ7_append_3_0 rfl 0 rfl ?_
  refine zr_aload_n C0 dJ7_append_3_1 rfl 0 rfl ?_
  obtain ⟨x1, e2, hf⟩ := zbind hf
  refine zr_get C0 fl_J7_79_J8 dJ7_append_3_2 (zgI e2) ?_
  refine zr_iconst C0 (v := 1) dJ7_append_3_5 (by decide) ?_
  refine zr_iadd C0 dJ7_append_3_6 ?_
  obtain ⟨_, e3, hf⟩ := zbind hf
  obtain ⟨x6, h4, e5, hf⟩ := zbind2 hf
  refine zr_callO_r C0 cv_J7_100_J8 rfl (zcko e3) (m_J7_ensureCapacityInternal C0.2.2.2.2.2.2.1 e5) (by decide) (by decide) rfl rfl (Nat.le_of_ble_eq_true rfl) dJ7_append_3_7 rfl ?_
  refine zr_aload_n C0 dJ7_append_3_10 rfl 0 rfl ?_
  obtain ⟨_, e7, hf⟩ := zbind hf
  obtain ⟨x10, h8, e9, hf⟩ := zbind2 hf
  refine zr_callU_r C0 cv_J7_83_J8 rfl (zcko e7) (m_J7_isLatin1 C0.2.2.2.2.2.2.1 e9) (by decide) (by decide) rfl rfl (Nat.le_of_ble_eq_true rfl) dJ7_append_3_11 rfl ?_
  refine zr_if_eq C0 (tgt := 45) dJ7_append_3_14 (by decide) (fun c11 => ?_) (fun c11 => ?_)
  · have hf := zif_t c11 hf
    exact w_J7_append_3_b45 C0 hf
  · have hf := zif_f c11 hf
    refine zr_iload_n C0 dJ7_append_3_17 rfl 1 rfl ?_
    obtain ⟨x14, h12, e13, hf⟩ := zbind2 hf
    refine zr_callS_r C0 cv_J7_191 (m_J15_canEncode C0.2.2.2.2.2.2.1 e13) (by decide) (by decide) rfl rfl (Nat.le_of_ble_eq_true rfl) dJ7_append_3_18 rfl ?_
    refine zr_if_eq C0 (tgt := 45) dJ7_append_3_21 (by decide) (fun c15 => ?_) (fun c15 => ?_)
    · have hf := zif_t c15 hf
      exact w_J7_append_3_b45 C0 hf
    · have hf := zif_f c15 hf
      refine zr_aload_n C0 dJ7_append_3_24 rfl 0 rfl ?_
      obtain ⟨x16, e17, hf⟩ := zbind hf
      refine zr_get C0 fl_J7_15_J8 dJ7_append_3_25 (zgR e17) ?_
      refine zr_aload_n C0 dJ7_append_3_28 rfl 0 rfl ?_
      refine zr_dup C0 dJ7_append_3_29 rfl ?_
      obtain ⟨x18, e19, hf⟩ := zbind hf
      refine zr_get C0 fl_J7_79_J8 dJ7_append_3_30 (zgI e19) ?_
      refine zr_dup_x1 C0 dJ7_append_3_33 rfl rfl ?_
      refine zr_iconst C0 (v := 1) dJ7_append_3_34 (by decide) ?_
      refine zr_iadd C0 dJ7_append_3_35 ?_
      obtain ⟨h20, e21, hf⟩ := zbind hf
      refine zr_put C0 pl_J7_79_J8 dJ7_append_3_36 (fun h => by cases h) rfl rfl e21 ?_
      refine zr_iload_n C0 dJ7_append_3_39 rfl 1 rfl ?_
      refine zr_i2b C0 dJ7_append_3_40 ?_
      obtain ⟨h22, e23, hf⟩ := zbind hf
      refine zr_bast C0 dJ7_append_3_41 e23 ?_
      refine zr_goto C0 (tgt := 75) dJ7_append_3_42 (by decide) ?_
      refine zr_sub [0] rfl ?_
      exact w_J7_append_3_b75 C0 hf
def f_J7_append_3 (E : zE) (p0 : Nat) (p1 : Int32) (h : zH) : Option (Nat × zH) := f_J7_append_3_b0 E p0 p1 h
theorem m_J7_append_3 {l : Launch} (hst : l.stackTraces = false) {D : zD} {B0 : Nat} {E : zE} {p0 : Nat} {p1 : Int32} {h h' : zH} {r : Nat} (hf : f_J7_append_3 E p0 p1 h = some (r, h')) : zMet l yJ7_append_3 (ws_ yJ7_append_3 cJ7_append_3 2 (Option.some (Jvm.ClassFile.FieldType.object "java/lang/AbstractStringBuilder"))) 5 152 D B0 E [.ref p0, .int p1] h (zoR r) h' := by
  unfold f_J7_append_3 at hf
  refine zMet_of hst (by decide +kernel) rfl rfl (Nat.le_of_ble_eq_true rfl) (fun p e R s m below meth c C0 hno => ?_)
  show zW _ _ _ _ _ _ _ _ _ _ _ _ _ _ _ _ [(0, .ref p0), (1, .int p1)] []
  exact w_J7_append_3_b0 C0 hf
def f_J8_append_3_b0 (E : zE) (p0 : Nat) (p1 : Int32) (h : zH) : Option (Nat × zH) :=
  (cko h p0 18).bind fun _ =>
  bnd2 (f_J7_append_3 E p0 p1 h) fun x4 h2 =>
  some (p0, h2)
theorem w_J8_append_3_b0 (C0 : zCx p l e R s m args below meth c D B0 2 "java/lang/StringBuilder" cJ8_append_3 E 6 173 (Option.some (Jvm.ClassFile.FieldType.object "java/lang/StringBuilder")) "append") {r : Nat} {h' : zH} {p0 : Nat} {p1 : Int32} {h : zH} (hf : f_J8_append_3_b0 E p0 p1 h = some (r, h')) : zW p l e R s m args below meth c D B0 2 (zEnd D B0 R below args s (zoR r) h') h 0 [(0, .ref p0), (1, .int p1)] [] := by
  unfold f_J8_append_3_b0 at hf
  refine zr_aload_n C0 dJ8_append_3_0 rfl 0 rfl ?_
  refine zr_iload_n C0 dJ8_append_3_1 rfl 1 rfl ?_
  obtain ⟨_, e1, hf⟩ := zbind hf
  obtain ⟨x4, h2, e3, hf⟩ := zbind2 hf
  refine zr_callSU_r C0 cv_J8_50 rfl (zcko e1) (m_J7_append_3 C0.2.2.2.2.2.2.1 e3) (by decide) (by decide) rfl rfl (Nat.le_of_ble_eq_true rfl) dJ8_append_3_2 rfl ?_
  refine zr_pop C0 dJ8_append_3_5 rfl ?_
  refine zr_aload_n C0 dJ8_append_3_6 rfl 0 rfl ?_
  refine zretW hf ?_
  exact zr_aret C0 rfl (Or.inl ⟨_, rfl⟩) dJ8_append_3_7 rfl
def f_J8_append_3 (E : zE) (p0 : Nat) (p1 : Int32) (h : zH) : Option (Nat × zH) := f_J8_append_3_b0 E p0 p1 h
theorem m_J8_append_3 {l : Launch} (hst : l.stackTraces = false) {D : zD} {B0 : Nat} {E : zE} {p0 : Nat} {p1 : Int32} {h h' : zH} {r : Nat} (hf : f_J8_append_3 E p0 p1 h = some (r, h')) : zMet l yJ8_append_3 (ws_ yJ8_append_3 cJ8_append_3 2 (Option.some (Jvm.ClassFile.FieldType.object "java/lang/StringBuilder"))) 6 173 D B0 E [.ref p0, .int p1] h (zoR r) h' := by
  unfold f_J8_append_3 at hf
  refine zMet_of hst (by decide +kernel) rfl rfl (Nat.le_of_ble_eq_true rfl) (fun p e R s m below meth c C0 hno => ?_)
  show zW _ _ _ _ _ _ _ _ _ _ _ _ _ _ _ _ [(0, .ref p0), (1, .int p1)] []
  exact w_J8_append_3_b0 C0 hf
def f_X1_find_l12 (E : zE) : Nat → Nat → Nat → Int32 → zH → Option (Int32 × zH)
  | 0, _, _, _, _ => none
  | n + 1, p0, p1, p2, h =>
    (gI h p0 0 7).bind fun x1 =>
    if x1 ≤ p2 then (
      (pF h p0 0 7 (.int (0 : Int32))).bind fun h4 =>
      (gR h4 p0 0 0).bind fun x6 =>
      (cko h4 x6 2).bind fun _ =>
      bnd2 (f_X2_named_J8 E x6 p1 h4) fun x11 h9 =>
      some (x11, h9)
    ) else (
      (gR h p0 0 6).bind fun x12 =>
      (dI h x12 2 p2).bind fun x14 =>
      (cko h p1 18).bind fun _ =>
      bnd2 (f_J8_append_3 E p1 (((x14 &&& (255 : Int32)).toUInt32 % 65536).toInt32) h) fun x19 h17 =>
      f_X1_find_l12 E n p0 p1 (p2 + 1) h17
    )
theorem w_X1_find_l12 (C0 : zCx p l e R s m args below meth c D B0 3 "FranchiseLedger" cX1_find E 8 235 (Option.some Jvm.ClassFile.FieldType.int) "find") {r : Int32} {h' : zH} : ∀ (n : Nat) (p0 : Nat) (p1 : Nat) (p2 : Int32) (h : zH), f_X1_find_l12 E n p0 p1 p2 h = some (r, h') → zW p l e R s m args below meth c D B0 3 (zEnd D B0 R below args s (zoI r) h') h 12 [(0, .ref p0), (1, .ref p1), (2, .int p2)] [] := by
  intro n
  induction n with
  | zero =>
    intro p0 p1 p2 h hf
    unfold f_X1_find_l12 at hf
    cases hf
  | succ n ih =>
    intro p0 p1 p2 h hf
    unfold f_X1_find_l12 at hf
    refine zr_iload_n C0 dX1_find_12 rfl 2 rfl ?_
    refine zr_aload_n C0 dX1_find_13 rfl 0 rfl ?_
    obtain ⟨x1, e2, hf⟩ := zbind hf
    refine zr_get C0 fl_X1_487_X1 dX1_find_14 (zgI e2) ?_
    refine zr_icmp_ge C0 (tgt := 42) dX1_find_17 (by decide) (fun c3 => ?_) (fun c3 => ?_)
    · have hf := zif_t c3 hf
      refine zr_aload_n C0 dX1_find_42 rfl 0 rfl ?_
      refine zr_iconst C0 (v := 0) dX1_find_43 (by decide) ?_
      obtain ⟨h4, e5, hf⟩ := zbind hf
      refine zr_put C0 pl_X1_487_X1 dX1_find_44 (fun h => by cases h) rfl rfl e5 ?_
      refine zr_aload_n C0 dX1_find_47 rfl 0 rfl ?_
      obtain ⟨x6, e7, hf⟩ := zbind hf
      refine zr_get C0 fl_X1_30_X1 dX1_find_48 (zgR e7) ?_
      refine zr_aload_n C0 dX1_find_51 rfl 1 rfl ?_
      obtain ⟨_, e8, hf⟩ := zbind hf
      obtain ⟨x11, h9, e10, hf⟩ := zbind2 hf
      refine zr_callV_r C0 cv_X1_493_X2 rfl (zcko e8) (m_X2_named_J8 C0.2.2.2.2.2.2.1 e10) (by decide) (by decide) rfl rfl (Nat.le_of_ble_eq_true rfl) dX1_find_52 rfl ?_
      refine zretW hf ?_
      exact zr_iret C0 (ty := .int) rfl rfl dX1_find_55 rfl
    · have hf := zif_f c3 hf
      refine zr_aload_n C0 dX1_find_20 rfl 1 rfl ?_
      refine zr_aload_n C0 dX1_find_21 rfl 0 rfl ?_
      obtain ⟨x12, e13, hf⟩ := zbind hf
      refine zr_get C0 fl_X1_67_X1 dX1_find_22 (zgR e13) ?_
      refine zr_iload_n C0 dX1_find_25 rfl 2 rfl ?_
      obtain ⟨x14, e15, hf⟩ := zbind hf
      refine zr_bald C0 dX1_find_26 e15 ?_
      refine zr_sipush C0 (v := 255) dX1_find_27 (by decide) ?_
      refine zr_iand C0 dX1_find_30 ?_
      refine zr_i2c C0 dX1_find_31 ?_
      obtain ⟨_, e16, hf⟩ := zbind hf
      obtain ⟨x19, h17, e18, hf⟩ := zbind2 hf
      refine zr_callV_r C0 cv_X1_445_J8 rfl (zcko e16) (m_J8_append_3 C0.2.2.2.2.2.2.1 e18) (by decide) (by decide) rfl rfl (Nat.le_of_ble_eq_true rfl) dX1_find_32 rfl ?_
      refine zr_pop C0 dX1_find_35 rfl ?_
      refine zr_iinc (lv' := [(2, .int (p2 + 1)), (0, .ref p0), (1, .ref p1)]) C0 dX1_find_36 2 rfl rfl (by decide) (by first | rfl | simp [zst1, zst2, zcat_rf]) ?_
      refine zr_goto C0 (tgt := 12) dX1_find_39 (by decide) ?_
      refine zr_sub [1, 2, 0] rfl ?_
      exact ih _ _ _ _ hf
def f_X1_find_b0 (E : zE) (p0 : Nat) (h : zH) : Option (Int32 × zH) :=
  bnd2 (nO h 18 4 [.null, .int 0, .int 0, .int 0]) fun q1 h2 =>
  bnd2 (f_J8_init_2 E q1 (10 : Int32) h2) fun x6 h4 =>
  f_X1_find_l12 E E.1 p0 q1 (0 : Int32) h4
theorem w_X1_find_b0 (C0 : zCx p l e R s m args below meth c D B0 3 "FranchiseLedger" cX1_find E 8 235 (Option.some Jvm.ClassFile.FieldType.int) "find") {r : Int32} {h' : zH} {p0 : Nat} {h : zH} (hf : f_X1_find_b0 E p0 h = some (r, h')) : zW p l e R s m args below meth c D B0 3 (zEnd D B0 R below args s (zoI r) h') h 0 [(0, .ref p0)] [] := by
  unfold f_X1_find_b0 at hf
  obtain ⟨q1, h2, e3, hf⟩ := zbind2 hf
  refine zr_newc C0 (C := RJ8) (T := TJ8) (N := 4) rfl in_J8 tyJ8_ok q683 q251 q139 nw_J8 dX1_find_0 e3 ?_
  refine zr_dup C0 dX1_find_3 rfl ?_
  refine zr_bipush C0 (v := 10) dX1_find_4 (by decide) ?_
  obtain ⟨x6, h4, e5, hf⟩ := zbind2 hf
  refine zr_callI_r C0 cv_X1_60 (m_J8_init_2 C0.2.2.2.2.2.2.1 e5) (by decide) (by decide) rfl rfl (Nat.le_of_ble_eq_true rfl) dX1_find_6 rfl ?_
  refine zr_astore_n (i := 1) (lv' := [(1, .ref q1), (0, .ref p0)]) C0 dX1_find_9 rfl (by decide) (by first | rfl | simp [zst1, zst2, zcat_rf]) ?_
  refine zr_iconst C0 (v := 0) dX1_find_10 (by decide) ?_
  refine zr_istore_n (i := 2) (lv' := [(2, .int (0 : Int32)), (1, .ref q1), (0, .ref p0)]) C0 dX1_find_11 rfl (by decide) (by first | rfl | simp [zst1, zst2, zcat_rf]) ?_
  refine zr_sub [2, 1, 0] rfl ?_
  exact w_X1_find_l12 C0 _ _ _ _ _ hf
def f_X1_find (E : zE) (p0 : Nat) (h : zH) : Option (Int32 × zH) := f_X1_find_b0 E p0 h
theorem m_X1_find {l : Launch} (hst : l.stackTraces = false) {D : zD} {B0 : Nat} {E : zE} {p0 : Nat} {h h' : zH} {r : Int32} (hf : f_X1_find E p0 h = some (r, h')) : zMet l yX1_find (ws_ yX1_find cX1_find 3 (Option.some Jvm.ClassFile.FieldType.int)) 8 235 D B0 E [.ref p0] h (zoI r) h' := by
  unfold f_X1_find at hf
  refine zMet_of hst (by decide +kernel) rfl rfl (Nat.le_of_ble_eq_true rfl) (fun p e R s m below meth c C0 hno => ?_)
  show zW _ _ _ _ _ _ _ _ _ _ _ _ _ _ _ _ [(0, .ref p0)] []
  exact w_X1_find_b0 C0 hf
def f_X7_peek_b31 (E : zE) (s0 : Int32) (h : zH) : Option (Int32 × zH) :=
  some (s0, h)
theorem w_X7_peek_b31 (C0 : zCx p l e R s m args below meth c D B0 1 "FranchiseLedger$Reader" cX7_peek E 1 60 (Option.some Jvm.ClassFile.FieldType.int) "peek") {r : Int32} {h' : zH} {s0 : Int32} {h : zH} (hf : f_X7_peek_b31 E s0 h = some (r, h')) : zW p l e R s m args below meth c D B0 1 (zEnd D B0 R below args s (zoI r) h') h 31 [] [.int s0] := by
  unfold f_X7_peek_b31 at hf
  refine zretW hf ?_
  exact zr_iret C0 (ty := .int) rfl rfl dX7_peek_31 rfl
def f_X7_peek_b0 (E : zE) (p0 : Nat) (h : zH) : Option (Int32 × zH) :=
  (gI h p0 6 3).bind fun x1 =>
  (gI h p0 6 0).bind fun x3 =>
  if x3 ≤ x1 then (
    f_X7_peek_b31 E (-1 : Int32) h
  ) else (
    (gR h p0 6 8).bind fun x6 =>
    (gR h x6 0 6).bind fun x8 =>
    (gI h p0 6 3).bind fun x10 =>
    (dI h x8 2 x10).bind fun x12 =>
    f_X7_peek_b31 E (x12 &&& (255 : Int32)) h
  )
theorem w_X7_peek_b0 (C0 : zCx p l e R s m args below meth c D B0 1 "FranchiseLedger$Reader" cX7_peek E 1 60 (Option.some Jvm.ClassFile.FieldType.int) "peek") {r : Int32} {h' : zH} {p0 : Nat} {h : zH} (hf : f_X7_peek_b0 E p0 h = some (r, h')) : zW p l e R s m args below meth c D B0 1 (zEnd D B0 R below args s (zoI r) h') h 0 [(0, .ref p0)] [] := by
  unfold f_X7_peek_b0 at hf
  refine zr_aload_n C0 dX7_peek_0 rfl 0 rfl ?_
  obtain ⟨x1, e2, hf⟩ := zbind hf
  refine zr_get C0 fl_X7_53_X7 dX7_peek_1 (zgI e2) ?_
  refine zr_aload_n C0 dX7_peek_4 rfl 0 rfl ?_
  obtain ⟨x3, e4, hf⟩ := zbind hf
  refine zr_get C0 fl_X7_41_X7 dX7_peek_5 (zgI e4) ?_
  refine zr_icmp_ge C0 (tgt := 30) dX7_peek_8 (by decide) (fun c5 => ?_) (fun c5 => ?_)
  · have hf := zif_t c5 hf
    refine zr_iconst C0 (v := -1) dX7_peek_30 (by decide) ?_
    refine zr_sub [] rfl ?_
    exact w_X7_peek_b31 C0 hf
  · have hf := zif_f c5 hf
    refine zr_aload_n C0 dX7_peek_11 rfl 0 rfl ?_
    obtain ⟨x6, e7, hf⟩ := zbind hf
    refine zr_get C0 fl_X7_3_X7 dX7_peek_12 (zgR e7) ?_
    obtain ⟨x8, e9, hf⟩ := zbind hf
    refine zr_get C0 fl_X7_56_X1 dX7_peek_15 (zgR e9) ?_
    refine zr_aload_n C0 dX7_peek_18 rfl 0 rfl ?_
    obtain ⟨x10, e11, hf⟩ := zbind hf
    refine zr_get C0 fl_X7_53_X7 dX7_peek_19 (zgI e11) ?_
    obtain ⟨x12, e13, hf⟩ := zbind hf
    refine zr_bald C0 dX7_peek_22 e13 ?_
    refine zr_sipush C0 (v := 255) dX7_peek_23 (by decide) ?_
    refine zr_iand C0 dX7_peek_26 ?_
    refine zr_goto C0 (tgt := 31) dX7_peek_27 (by decide) ?_
    refine zr_sub [] rfl ?_
    exact w_X7_peek_b31 C0 hf
def f_X7_peek (E : zE) (p0 : Nat) (h : zH) : Option (Int32 × zH) := f_X7_peek_b0 E p0 h
theorem m_X7_peek {l : Launch} (hst : l.stackTraces = false) {D : zD} {B0 : Nat} {E : zE} {p0 : Nat} {h h' : zH} {r : Int32} (hf : f_X7_peek E p0 h = some (r, h')) : zMet l yX7_peek (ws_ yX7_peek cX7_peek 1 (Option.some Jvm.ClassFile.FieldType.int)) 1 60 D B0 E [.ref p0] h (zoI r) h' := by
  unfold f_X7_peek at hf
  refine zMet_of hst (by decide +kernel) rfl rfl (Nat.le_of_ble_eq_true rfl) (fun p e R s m below meth c C0 hno => ?_)
  show zW _ _ _ _ _ _ _ _ _ _ _ _ _ _ _ _ [(0, .ref p0)] []
  exact w_X7_peek_b0 C0 hf
def f_X7_isLetter_b0 (E : zE) (p0 : Nat) (h : zH) : Option (Int32 × zH) :=
  (cko h p0 6).bind fun _ =>
  bnd2 (f_X7_peek E p0 h) fun x4 h2 =>
  bnd2 (f_X1_inRange E (x4.toInt64) (97 : Int64) (122 : Int64) h2) fun x7 h5 =>
  (zgd .boolean x7).bind fun _ =>
  some (x7, h5)
theorem w_X7_isLetter_b0 (C0 : zCx p l e R s m args below meth c D B0 1 "FranchiseLedger$Reader" cX7_isLetter E 2 85 (Option.some Jvm.ClassFile.FieldType.boolean) "isLetter") {r : Int32} {h' : zH} {p0 : Nat} {h : zH} (hf : f_X7_isLetter_b0 E p0 h = some (r, h')) : zW p l e R s m args below meth c D B0 1 (zEnd D B0 R below args s (zoI r) h') h 0 [(0, .ref p0)] [] := by
  unfold f_X7_isLetter_b0 at hf
  refine zr_aload_n C0 dX7_isLetter_0 rfl 0 rfl ?_
  obtain ⟨_, e1, hf⟩ := zbind hf
  obtain ⟨x4, h2, e3, hf⟩ := zbind2 hf
  refine zr_callV_r C0 cv_X7_60_X7 rfl (zcko e1) (m_X7_peek C0.2.2.2.2.2.2.1 e3) (by decide) (by decide) rfl rfl (Nat.le_of_ble_eq_true rfl) dX7_isLetter_1 rfl ?_
  refine zr_i2l C0 dX7_isLetter_4 ?_
  refine zr_ldc2 C0 (v := 97) q1354 dX7_isLetter_5 ?_
  refine zr_ldc2 C0 (v := 122) q1355 dX7_isLetter_8 ?_
  obtain ⟨x7, h5, e6, hf⟩ := zbind2 hf
  refine zr_callSN_r C0 cv_X7_68 (m_X1_inRange C0.2.2.2.2.2.2.1 e6) (by decide) (by decide) rfl rfl (Nat.le_of_ble_eq_true rfl) dX7_isLetter_11 rfl ?_
  obtain ⟨_, e8, hf⟩ := zbind hf
  refine zretW hf ?_
  exact zr_iret C0 (ty := .boolean) rfl (zgd_n e8) dX7_isLetter_14 rfl
def f_X7_isLetter (E : zE) (p0 : Nat) (h : zH) : Option (Int32 × zH) := f_X7_isLetter_b0 E p0 h
theorem m_X7_isLetter {l : Launch} (hst : l.stackTraces = false) {D : zD} {B0 : Nat} {E : zE} {p0 : Nat} {h h' : zH} {r : Int32} (hf : f_X7_isLetter E p0 h = some (r, h')) : zMet l yX7_isLetter (ws_ yX7_isLetter cX7_isLetter 1 (Option.some Jvm.ClassFile.FieldType.boolean)) 2 85 D B0 E [.ref p0] h (zoI r) h' := by
  unfold f_X7_isLetter at hf
  refine zMet_of hst (by decide +kernel) rfl rfl (Nat.le_of_ble_eq_true rfl) (fun p e R s m below meth c C0 hno => ?_)
  show zW _ _ _ _ _ _ _ _ _ _ _ _ _ _ _ _ [(0, .ref p0)] []
  exact w_X7_isLetter_b0 C0 hf
def f_X7_isDigit_b0 (E : zE) (p0 : Nat) (h : zH) : Option (Int32 × zH) :=
  (cko h p0 6).bind fun _ =>
  bnd2 (f_X7_peek E p0 h) fun x4 h2 =>
  bnd2 (f_X1_inRange E (x4.toInt64) (48 : Int64) (57 : Int64) h2) fun x7 h5 =>
  (zgd .boolean x7).bind fun _ =>
  some (x7, h5)
theorem w_X7_isDigit_b0 (C0 : zCx p l e R s m args below meth c D B0 1 "FranchiseLedger$Reader" cX7_isDigit E 2 85 (Option.some Jvm.ClassFile.FieldType.boolean) "isDigit") {r : Int32} {h' : zH} {p0 : Nat} {h : zH} (hf : f_X7_isDigit_b0 E p0 h = some (r, h')) : zW p l e R s m args below meth c D B0 1 (zEnd D B0 R below args s (zoI r) h') h 0 [(0, .ref p0)] [] := by
  unfold f_X7_isDigit_b0 at hf
  refine zr_aload_n C0 dX7_isDigit_0 rfl 0 rfl ?_
  obtain ⟨_, e1, hf⟩ := zbind hf
  obtain ⟨x4, h2, e3, hf⟩ := zbind2 hf
  refine zr_callV_r C0 cv_X7_60_X7 rfl (zcko e1) (m_X7_peek C0.2.2.2.2.2.2.1 e3) (by decide) (by decide) rfl rfl (Nat.le_of_ble_eq_true rfl) dX7_isDigit_1 rfl ?_
  refine zr_i2l C0 dX7_isDigit_4 ?_
  refine zr_ldc2 C0 (v := 48) q1369 dX7_isDigit_5 ?_
  refine zr_ldc2 C0 (v := 57) q1370 dX7_isDigit_8 ?_
  obtain ⟨x7, h5, e6, hf⟩ := zbind2 hf
  refine zr_callSN_r C0 cv_X7_68 (m_X1_inRange C0.2.2.2.2.2.2.1 e6) (by decide) (by decide) rfl rfl (Nat.le_of_ble_eq_true rfl) dX7_isDigit_11 rfl ?_
  obtain ⟨_, e8, hf⟩ := zbind hf
  refine zretW hf ?_
  exact zr_iret C0 (ty := .boolean) rfl (zgd_n e8) dX7_isDigit_14 rfl
def f_X7_isDigit (E : zE) (p0 : Nat) (h : zH) : Option (Int32 × zH) := f_X7_isDigit_b0 E p0 h
theorem m_X7_isDigit {l : Launch} (hst : l.stackTraces = false) {D : zD} {B0 : Nat} {E : zE} {p0 : Nat} {h h' : zH} {r : Int32} (hf : f_X7_isDigit E p0 h = some (r, h')) : zMet l yX7_isDigit (ws_ yX7_isDigit cX7_isDigit 1 (Option.some Jvm.ClassFile.FieldType.boolean)) 2 85 D B0 E [.ref p0] h (zoI r) h' := by
  unfold f_X7_isDigit at hf
  refine zMet_of hst (by decide +kernel) rfl rfl (Nat.le_of_ble_eq_true rfl) (fun p e R s m below meth c C0 hno => ?_)
  show zW _ _ _ _ _ _ _ _ _ _ _ _ _ _ _ _ [(0, .ref p0)] []
  exact w_X7_isDigit_b0 C0 hf
def f_X7_scanNumber_b78 (E : zE) (s0 : Nat) (s1 : Int32) (h : zH) : Option (Unit × zH) :=
  (pF h s0 6 5 (.int s1)).bind fun h1 =>
  some ((), h1)
theorem w_X7_scanNumber_b78 (C0 : zCx p l e R s m args below meth c D B0 1 "FranchiseLedger$Reader" cX7_scanNumber E 3 105 (Option.none : Option Jvm.ClassFile.FieldType) "scanNumber") {r : Unit} {h' : zH} {s0 : Nat} {s1 : Int32} {h : zH} (hf : f_X7_scanNumber_b78 E s0 s1 h = some (r, h')) : zW p l e R s m args below meth c D B0 1 (zEnd D B0 R below args s (zoV r) h') h 78 [] [.int s1, .ref s0] := by
  unfold f_X7_scanNumber_b78 at hf
  obtain ⟨h1, e2, hf⟩ := zbind hf
  refine zr_put C0 pl_X7_79_X7 dX7_scanNumber_78 (fun h => by cases h) rfl rfl e2 ?_
  refine zretW hf ?_
  exact zr_vret C0 rfl dX7_scanNumber_81 rfl
def f_X7_scanNumber_b45 (E : zE) (k5 : Nat → zH → Option (Unit × zH)) (p0 : Nat) (h : zH) : Option (Unit × zH) :=
  (gI h p0 6 3).bind fun x1 =>
  (pF h p0 6 3 (.int (x1 + (1 : Int32)))).bind fun h3 =>
  k5 p0 h3
theorem w_X7_scanNumber_b45 (C0 : zCx p l e R s m args below meth c D B0 1 "FranchiseLedger$Reader" cX7_scanNumber E 3 105 (Option.none : Option Jvm.ClassFile.FieldType) "scanNumber") {r : Unit} {h' : zH} {k5 : Nat → zH → Option (Unit × zH)} (hk5 : ∀ (p0 : Nat) (h : zH), k5 p0 h = some (r, h') → zW p l e R s m args below meth c D B0 1 (zEnd D B0 R below args s (zoV r) h') h 5 [(0, .ref p0)] []) {p0 : Nat} {h : zH} (hf : f_X7_scanNumber_b45 E k5 p0 h = some (r, h')) : zW p l e R s m args below meth c D B0 1 (zEnd D B0 R below args s (zoV r) h') h 45 [(0, .ref p0)] [] := by
  unfold f_X7_scanNumber_b45 at hf
  refine zr_aload_n C0 dX7_scanNumber_45 rfl 0 rfl ?_
  refine zr_dup C0 dX7_scanNumber_46 rfl ?_
  obtain ⟨x1, e2, hf⟩ := zbind hf
  refine zr_get C0 fl_X7_53_X7 dX7_scanNumber_47 (zgI e2) ?_
  refine zr_iconst C0 (v := 1) dX7_scanNumber_50 (by decide) ?_
  refine zr_iadd C0 dX7_scanNumber_51 ?_
  obtain ⟨h3, e4, hf⟩ := zbind hf
  refine zr_put C0 pl_X7_53_X7 dX7_scanNumber_52 (fun h => by cases h) rfl rfl e4 ?_
  refine zr_goto C0 (tgt := 5) dX7_scanNumber_55 (by decide) ?_
  exact hk5 _ _ hf
def f_X7_scanNumber_l5 (E : zE) : Nat → Nat → zH → Option (Unit × zH)
  | 0, _, _ => none
  | n + 1, p0, h =>
    (cko h p0 6).bind fun _ =>
    bnd2 (f_X7_isDigit E p0 h) fun x4 h2 =>
    if x4 = 0 then (
      (gI h2 p0 6 3).bind fun x6 =>
      (gI h2 p0 6 4).bind fun x8 =>
      if (x6 - x8) ≤ (6 : Int32) then (
        f_X7_scanNumber_b78 E p0 (2 : Int32) h2
      ) else (
        f_X7_scanNumber_b78 E p0 (4 : Int32) h2
      )
    ) else (
      (gI h2 p0 6 3).bind fun x11 =>
      (gI h2 p0 6 4).bind fun x13 =>
      if (6 : Int32) ≤ (x11 - x13) then (
        f_X7_scanNumber_b45 E (f_X7_scanNumber_l5 E n) p0 h2
      ) else (
        (gI h2 p0 6 6).bind fun x16 =>
        (cko h2 p0 6).bind fun _ =>
        bnd2 (f_X7_peek E p0 h2) fun x21 h19 =>
        (pF h19 p0 6 6 (.int ((((10 : Int32) * x16) + x21) - (48 : Int32)))).bind fun h22 =>
        f_X7_scanNumber_b45 E (f_X7_scanNumber_l5 E n) p0 h22
      )
    )
theorem w_X7_scanNumber_l5 (C0 : zCx p l e R s m args below meth c D B0 1 "FranchiseLedger$Reader" cX7_scanNumber E 3 105 (Option.none : Option Jvm.ClassFile.FieldType) "scanNumber") {r : Unit} {h' : zH} : ∀ (n : Nat) (p0 : Nat) (h : zH), f_X7_scanNumber_l5 E n p0 h = some (r, h') → zW p l e R s m args below meth c D B0 1 (zEnd D B0 R below args s (zoV r) h') h 5 [(0, .ref p0)] [] := by
  intro n
  induction n with
  | zero =>
    intro p0 h hf
    unfold f_X7_scanNumber_l5 at hf
    cases hf
  | succ n ih =>
    intro p0 h hf
    unfold f_X7_scanNumber_l5 at hf
    refine zr_aload_n C0 dX7_scanNumber_5 rfl 0 rfl ?_
    obtain ⟨_, e1, hf⟩ := zbind hf
    obtain ⟨x4, h2, e3, hf⟩ := zbind2 hf
    refine zr_callV_r C0 cv_X7_89_X7 rfl (zcko e1) (m_X7_isDigit C0.2.2.2.2.2.2.1 e3) (by decide) (by decide) rfl rfl (Nat.le_of_ble_eq_true rfl) dX7_scanNumber_6 rfl ?_
    refine zr_if_eq C0 (tgt := 58) dX7_scanNumber_9 (by decide) (fun c5 => ?_) (fun c5 => ?_)
    · have hf := zif_t c5 hf
      refine zr_aload_n C0 dX7_scanNumber_58 rfl 0 rfl ?_
      refine zr_aload_n C0 dX7_scanNumber_59 rfl 0 rfl ?_
      obtain ⟨x6, e7, hf⟩ := zbind hf
      refine zr_get C0 fl_X7_53_X7 dX7_scanNumber_60 (zgI e7) ?_
      refine zr_aload_n C0 dX7_scanNumber_63 rfl 0 rfl ?_
      obtain ⟨x8, e9, hf⟩ := zbind hf
      refine zr_get C0 fl_X7_76_X7 dX7_scanNumber_64 (zgI e9) ?_
      refine zr_isub C0 dX7_scanNumber_67 ?_
      refine zr_bipush C0 (v := 6) dX7_scanNumber_68 (by decide) ?_
      refine zr_icmp_le C0 (tgt := 77) dX7_scanNumber_70 (by decide) (fun c10 => ?_) (fun c10 => ?_)
      · have hf := zif_t c10 hf
        refine zr_iconst C0 (v := 2) dX7_scanNumber_77 (by decide) ?_
        refine zr_sub [] rfl ?_
        exact w_X7_scanNumber_b78 C0 hf
      · have hf := zif_f c10 hf
        refine zr_iconst C0 (v := 4) dX7_scanNumber_73 (by decide) ?_
        refine zr_goto C0 (tgt := 78) dX7_scanNumber_74 (by decide) ?_
        refine zr_sub [] rfl ?_
        exact w_X7_scanNumber_b78 C0 hf
    · have hf := zif_f c5 hf
      refine zr_aload_n C0 dX7_scanNumber_12 rfl 0 rfl ?_
      obtain ⟨x11, e12, hf⟩ := zbind hf
      refine zr_get C0 fl_X7_53_X7 dX7_scanNumber_13 (zgI e12) ?_
      refine zr_aload_n C0 dX7_scanNumber_16 rfl 0 rfl ?_
      obtain ⟨x13, e14, hf⟩ := zbind hf
      refine zr_get C0 fl_X7_76_X7 dX7_scanNumber_17 (zgI e14) ?_
      refine zr_isub C0 dX7_scanNumber_20 ?_
      refine zr_bipush C0 (v := 6) dX7_scanNumber_21 (by decide) ?_
      refine zr_icmp_ge C0 (tgt := 45) dX7_scanNumber_23 (by decide) (fun c15 => ?_) (fun c15 => ?_)
      · have hf := zif_t c15 hf
        exact w_X7_scanNumber_b45 C0 ih hf
      · have hf := zif_f c15 hf
        refine zr_aload_n C0 dX7_scanNumber_26 rfl 0 rfl ?_
        refine zr_bipush C0 (v := 10) dX7_scanNumber_27 (by decide) ?_
        refine zr_aload_n C0 dX7_scanNumber_29 rfl 0 rfl ?_
        obtain ⟨x16, e17, hf⟩ := zbind hf
        refine zr_get C0 fl_X7_108_X7 dX7_scanNumber_30 (zgI e17) ?_
        refine zr_imul C0 dX7_scanNumber_33 ?_
        refine zr_aload_n C0 dX7_scanNumber_34 rfl 0 rfl ?_
        obtain ⟨_, e18, hf⟩ := zbind hf
        obtain ⟨x21, h19, e20, hf⟩ := zbind2 hf
        refine zr_callV_r C0 cv_X7_60_X7 rfl (zcko e18) (m_X7_peek C0.2.2.2.2.2.2.1 e20) (by decide) (by decide) rfl rfl (Nat.le_of_ble_eq_true rfl) dX7_scanNumber_35 rfl ?_
        refine zr_iadd C0 dX7_scanNumber_38 ?_
        refine zr_bipush C0 (v := 48) dX7_scanNumber_39 (by decide) ?_
        refine zr_isub C0 dX7_scanNumber_41 ?_
        obtain ⟨h22, e23, hf⟩ := zbind hf
        refine zr_put C0 pl_X7_108_X7 dX7_scanNumber_42 (fun h => by cases h) rfl rfl e23 ?_
        exact w_X7_scanNumber_b45 C0 ih hf
def f_X7_scanNumber_b0 (E : zE) (p0 : Nat) (h : zH) : Option (Unit × zH) :=
  (pF h p0 6 6 (.int (0 : Int32))).bind fun h1 =>
  f_X7_scanNumber_l5 E E.1 p0 h1
theorem w_X7_scanNumber_b0 (C0 : zCx p l e R s m args below meth c D B0 1 "FranchiseLedger$Reader" cX7_scanNumber E 3 105 (Option.none : Option Jvm.ClassFile.FieldType) "scanNumber") {r : Unit} {h' : zH} {p0 : Nat} {h : zH} (hf : f_X7_scanNumber_b0 E p0 h = some (r, h')) : zW p l e R s m args below meth c D B0 1 (zEnd D B0 R below args s (zoV r) h') h 0 [(0, .ref p0)] [] := by
  unfold f_X7_scanNumber_b0 at hf
  refine zr_aload_n C0 dX7_scanNumber_0 rfl 0 rfl ?_
  refine zr_iconst C0 (v := 0) dX7_scanNumber_1 (by decide) ?_
  obtain ⟨h1, e2, hf⟩ := zbind hf
  refine zr_put C0 pl_X7_108_X7 dX7_scanNumber_2 (fun h => by cases h) rfl rfl e2 ?_
  exact w_X7_scanNumber_l5 C0 _ _ _ hf
def f_X7_scanNumber (E : zE) (p0 : Nat) (h : zH) : Option (Unit × zH) := f_X7_scanNumber_b0 E p0 h
theorem m_X7_scanNumber {l : Launch} (hst : l.stackTraces = false) {D : zD} {B0 : Nat} {E : zE} {p0 : Nat} {h h' : zH} {r : Unit} (hf : f_X7_scanNumber E p0 h = some (r, h')) : zMet l yX7_scanNumber (ws_ yX7_scanNumber cX7_scanNumber 1 (Option.none : Option Jvm.ClassFile.FieldType)) 3 105 D B0 E [.ref p0] h (zoV r) h' := by
  unfold f_X7_scanNumber at hf
  refine zMet_of hst (by decide +kernel) rfl rfl (Nat.le_of_ble_eq_true rfl) (fun p e R s m below meth c C0 hno => ?_)
  show zW _ _ _ _ _ _ _ _ _ _ _ _ _ _ _ _ [(0, .ref p0)] []
  exact w_X7_scanNumber_b0 C0 hf
def f_J10_compress_2_l10 (E : zE) : Nat → Nat → Int32 → Nat → Int32 → Int32 → Int32 → zH → Option (Int32 × zH)
  | 0, _, _, _, _, _, _, _ => none
  | n + 1, p0, p1, p2, p3, p4, p5, h =>
    if p4 ≤ p5 then (
      some (p4, h)
    ) else (
      bnd2 (f_J10_getChar E p0 p1 h) fun x4 h2 =>
      if x4 ≤ (255 : Int32) then (
        (sI h2 p2 2 p3 ((x4.toInt8.toInt32).toInt8.toInt32)).bind fun h6 =>
        f_J10_compress_2_l10 E n p0 (p1 + 1) p2 (p3 + 1) p4 (p5 + 1) h6
      ) else (
        some (p5, h2)
      )
    )
theorem w_J10_compress_2_l10 (C0 : zCx p l e R s m args below meth c D B0 7 "java/lang/StringUTF16" cJ10_compress_2 E 4 127 (Option.some Jvm.ClassFile.FieldType.int) "compress") {r : Int32} {h' : zH} : ∀ (n : Nat) (p0 : Nat) (p1 : Int32) (p2 : Nat) (p3 : Int32) (p4 : Int32) (p5 : Int32) (h : zH), f_J10_compress_2_l10 E n p0 p1 p2 p3 p4 p5 h = some (r, h') → zW p l e R s m args below meth c D B0 7 (zEnd D B0 R below args s (zoI r) h') h 10 [(0, .ref p0), (1, .int p1), (2, .ref p2), (3, .int p3), (4, .int p4), (5, .int p5)] [] := by
  intro n
  induction n with
  | zero =>
    intro p0 p1 p2 p3 p4 p5 h hf
    unfold f_J10_compress_2_l10 at hf
    cases hf
  | succ n ih =>
    intro p0 p1 p2 p3 p4 p5 h hf
    unfold f_J10_compress_2_l10 at hf
    refine zr_iload C0 dJ10_compress_2_10 5 rfl ?_
    refine zr_iload C0 dJ10_compress_2_12 4 rfl ?_
    refine zr_icmp_ge C0 (tgt := 53) dJ10_compress_2_14 (by decide) (fun c1 => ?_) (fun c1 => ?_)
    · have hf := zif_t c1 hf
      refine zr_iload C0 dJ10_compress_2_53 4 rfl ?_
      refine zretW hf ?_
      exact zr_iret C0 (ty := .int) rfl rfl dJ10_compress_2_55 rfl
    · have hf := zif_f c1 hf
      refine zr_aload_n C0 dJ10_compress_2_17 rfl 0 rfl ?_
      refine zr_iload_n C0 dJ10_compress_2_18 rfl 1 rfl ?_
      obtain ⟨x4, h2, e3, hf⟩ := zbind2 hf
      refine zr_callS_r C0 cv_J10_71 (m_J10_getChar C0.2.2.2.2.2.2.1 e3) (by decide) (by decide) rfl rfl (Nat.le_of_ble_eq_true rfl) dJ10_compress_2_19 rfl ?_
      refine zr_istore (i := 6) (lv' := [(6, .int x4), (0, .ref p0), (1, .int p1), (2, .ref p2), (3, .int p3), (4, .int p4), (5, .int p5)]) C0 dJ10_compress_2_22 (by decide) (by first | rfl | simp [zst1, zst2, zcat_rf]) ?_
      refine zr_iload C0 dJ10_compress_2_24 0 rfl ?_
      refine zr_sipush C0 (v := 255) dJ10_compress_2_26 (by decide) ?_
      refine zr_icmp_le C0 (tgt := 35) dJ10_compress_2_29 (by decide) (fun c5 => ?_) (fun c5 => ?_)
      · have hf := zif_t c5 hf
        refine zr_aload_n C0 dJ10_compress_2_35 rfl 3 rfl ?_
        refine zr_iload_n C0 dJ10_compress_2_36 rfl 4 rfl ?_
        refine zr_iload C0 dJ10_compress_2_37 0 rfl ?_
        refine zr_i2b C0 dJ10_compress_2_39 ?_
        obtain ⟨h6, e7, hf⟩ := zbind hf
        refine zr_bast C0 dJ10_compress_2_40 e7 ?_
        refine zr_iinc (lv' := [(1, .int (p1 + 1)), (6, .int x4), (0, .ref p0), (2, .ref p2), (3, .int p3), (4, .int p4), (5, .int p5)]) C0 dJ10_compress_2_41 2 rfl rfl (by decide) (by first | rfl | simp [zst1, zst2, zcat_rf]) ?_
        refine zr_iinc (lv' := [(3, .int (p3 + 1)), (1, .int (p1 + 1)), (6, .int x4), (0, .ref p0), (2, .ref p2), (4, .int p4), (5, .int p5)]) C0 dJ10_compress_2_44 4 rfl rfl (by decide) (by first | rfl | simp [zst1, zst2, zcat_rf]) ?_
        refine zr_iinc (lv' := [(5, .int (p5 + 1)), (3, .int (p3 + 1)), (1, .int (p1 + 1)), (6, .int x4), (0, .ref p0), (2, .ref p2), (4, .int p4)]) C0 dJ10_compress_2_47 6 rfl rfl (by decide) (by first | rfl | simp [zst1, zst2, zcat_rf]) ?_
        refine zr_goto C0 (tgt := 10) dJ10_compress_2_50 (by decide) ?_
        refine zr_sub [4, 2, 5, 1, 6, 0] rfl ?_
        exact ih _ _ _ _ _ _ _ hf
      · have hf := zif_f c5 hf
        refine zr_iload C0 dJ10_compress_2_32 6 rfl ?_
        refine zretW hf ?_
        exact zr_iret C0 (ty := .int) rfl rfl dJ10_compress_2_34 rfl
def f_J10_compress_2_b0 (E : zE) (p0 : Nat) (p1 : Int32) (p2 : Nat) (p3 : Int32) (p4 : Int32) (h : zH) : Option (Int32 × zH) :=
  bnd2 (f_J10_checkBoundsOffCount E p1 p4 p0 h) fun x3 h1 =>
  f_J10_compress_2_l10 E E.1 p0 p1 p2 p3 p4 (0 : Int32) h1
theorem w_J10_compress_2_b0 (C0 : zCx p l e R s m args below meth c D B0 7 "java/lang/StringUTF16" cJ10_compress_2 E 4 127 (Option.some Jvm.ClassFile.FieldType.int) "compress") {r : Int32} {h' : zH} {p0 : Nat} {p1 : Int32} {p2 : Nat} {p3 : Int32} {p4 : Int32} {h : zH} (hf : f_J10_compress_2_b0 E p0 p1 p2 p3 p4 h = some (r, h')) : zW p l e R s m args below meth c D B0 7 (zEnd D B0 R below args s (zoI r) h') h 0 [(0, .ref p0), (1, .int p1), (2, .ref p2), (3, .int p3), (4, .int p4)] [] := by
  unfold f_J10_compress_2_b0 at hf
  refine zr_iload_n C0 dJ10_compress_2_0 rfl 1 rfl ?_
  refine zr_iload C0 dJ10_compress_2_1 4 rfl ?_
  refine zr_aload_n C0 dJ10_compress_2_3 rfl 0 rfl ?_
  obtain ⟨x3, h1, e2, hf⟩ := zbind2 hf
  refine zr_callS_r C0 cv_J10_173 (m_J10_checkBoundsOffCount C0.2.2.2.2.2.2.1 e2) (by decide) (by decide) rfl rfl (Nat.le_of_ble_eq_true rfl) dJ10_compress_2_4 rfl ?_
  refine zr_iconst C0 (v := 0) dJ10_compress_2_7 (by decide) ?_
  refine zr_istore (i := 5) (lv' := [(5, .int (0 : Int32)), (0, .ref p0), (1, .int p1), (2, .ref p2), (3, .int p3), (4, .int p4)]) C0 dJ10_compress_2_8 (by decide) (by first | rfl | simp [zst1, zst2, zcat_rf]) ?_
  refine zr_sub [1, 2, 3, 4, 5, 0] rfl ?_
  exact w_J10_compress_2_l10 C0 _ _ _ _ _ _ _ _ hf
def f_J10_compress_2 (E : zE) (p0 : Nat) (p1 : Int32) (p2 : Nat) (p3 : Int32) (p4 : Int32) (h : zH) : Option (Int32 × zH) := f_J10_compress_2_b0 E p0 p1 p2 p3 p4 h
theorem m_J10_compress_2 {l : Launch} (hst : l.stackTraces = false) {D : zD} {B0 : Nat} {E : zE} {p0 : Nat} {p1 : Int32} {p2 : Nat} {p3 : Int32} {p4 : Int32} {h h' : zH} {r : Int32} (hf : f_J10_compress_2 E p0 p1 p2 p3 p4 h = some (r, h')) : zMet l yJ10_compress_2 (ws_ yJ10_compress_2 cJ10_compress_2 7 (Option.some Jvm.ClassFile.FieldType.int)) 4 127 D B0 E [.ref p0, .int p1, .ref p2, .int p3, .int p4] h (zoI r) h' := by
  unfold f_J10_compress_2 at hf
  refine zMet_of hst (by decide +kernel) rfl rfl (Nat.le_of_ble_eq_true rfl) (fun p e R s m below meth c C0 hno => ?_)
  show zW _ _ _ _ _ _ _ _ _ _ _ _ _ _ _ _ [(0, .ref p0), (1, .int p1), (2, .ref p2), (3, .int p3), (4, .int p4)] []
  exact w_J10_compress_2_b0 C0 hf
def f_J13_checkLength_b0 (E : zE) (p0 : Int32) (p1 : Int32) (h : zH) : Option (Unit × zH) :=
  if p0 ≤ p1 then (
    some ((), h)
  ) else (
    none
  )
theorem w_J13_checkLength_b0 (C0 : zCx p l e R s m args below meth c D B0 2 "java/util/Arrays" cJ13_checkLength E 1 60 (Option.none : Option Jvm.ClassFile.FieldType) "checkLength") {r : Unit} {h' : zH} {p0 : Int32} {p1 : Int32} {h : zH} (hf : f_J13_checkLength_b0 E p0 p1 h = some (r, h')) : zW p l e R s m args below meth c D B0 2 (zEnd D B0 R below args s (zoV r) h') h 0 [(0, .int p0), (1, .int p1)] [] := by
  unfold f_J13_checkLength_b0 at hf
  refine zr_iload_n C0 dJ13_checkLength_0 rfl 1 rfl ?_
  refine zr_iload_n C0 dJ13_checkLength_1 rfl 0 rfl ?_
  refine zr_icmp_ge C0 (tgt := 37) dJ13_checkLength_2 (by decide) (fun c1 => ?_) (fun c1 => ?_)
  · have hf := zif_t c1 hf
    refine zretW hf ?_
    exact zr_vret C0 rfl dJ13_checkLength_37 rfl
  · have hf := zif_f c1 hf
    cases hf
def f_J13_checkLength (E : zE) (p0 : Int32) (p1 : Int32) (h : zH) : Option (Unit × zH) := f_J13_checkLength_b0 E p0 p1 h
theorem m_J13_checkLength {l : Launch} (hst : l.stackTraces = false) {D : zD} {B0 : Nat} {E : zE} {p0 : Int32} {p1 : Int32} {h h' : zH} {r : Unit} (hf : f_J13_checkLength E p0 p1 h = some (r, h')) : zMet l yJ13_checkLength (ws_ yJ13_checkLength cJ13_checkLength 2 (Option.none : Option Jvm.ClassFile.FieldType)) 1 60 D B0 E [.int p0, .int p1] h (zoV r) h' := by
  unfold f_J13_checkLength at hf
  refine zMet_of hst (by decide +kernel) rfl rfl (Nat.le_of_ble_eq_true rfl) (fun p e R s m below meth c C0 hno => ?_)
  show zW _ _ _ _ _ _ _ _ _ _ _ _ _ _ _ _ [(0, .int p0), (1, .int p1)] []
  exact w_J13_checkLength_b0 C0 hf
def f_J13_copyOfRangeByte_b0 (E : zE) (p0 : Nat) (p1 : Int32) (p2 : Int32) (h : zH) : Option (Nat × zH) :=
  bnd2 (f_J13_checkLength E p1 p2 h) fun x3 h1 =>
  bnd2 (nA h1 2 (p2 - p1) (.inl fun _ => 0)) fun q4 h5 =>
  (lenA h5 p0).bind fun x7 =>
  bnd2 (f_J12_min E (x7 - p1) (p2 - p1) h5) fun x11 h9 =>
  (cpA h9 p0 p1 q4 (0 : Int32) x11).bind fun h12 =>
  some (q4, h12)
theorem w_J13_copyOfRangeByte_b0 (C0 : zCx p l e R s m args below meth c D B0 5 "java/util/Arrays" cJ13_copyOfRangeByte E 2 81 (Option.some (Jvm.ClassFile.FieldType.array Jvm.ClassFile.FieldType.byte)) "copyOfRangeByte") {r : Nat} {h' : zH} {p0 : Nat} {p1 : Int32} {p2 : Int32} {h : zH} (hf : f_J13_copyOfRangeByte_b0 E p0 p1 p2 h = some (r, h')) : zW p l e R s m args below meth c D B0 5 (zEnd D B0 R below args s (zoR r) h') h 0 [(0, .ref p0), (1, .int p1), (2, .int p2)] [] := by
  unfold f_J13_copyOfRangeByte_b0 at hf
  refine zr_iload_n C0 dJ13_copyOfRangeByte_0 rfl 1 rfl ?_
  refine zr_iload_n C0 dJ13_copyOfRangeByte_1 rfl 2 rfl ?_
  obtain ⟨x3, h1, e2, hf⟩ := zbind2 hf
  refine zr_callS_r C0 cv_J13_343 (m_J13_checkLength C0.2.2.2.2.2.2.1 e2) (by decide) (by decide) rfl rfl (Nat.le_of_ble_eq_true rfl) dJ13_copyOfRangeByte_2 rfl ?_
  refine zr_iload_n C0 dJ13_copyOfRangeByte_5 rfl 2 rfl ?_
  refine zr_iload_n C0 dJ13_copyOfRangeByte_6 rfl 1 rfl ?_
  refine zr_isub C0 dJ13_copyOfRangeByte_7 ?_
  refine zr_istore_n (i := 3) (lv' := [(3, .int (p2 - p1)), (0, .ref p0), (1, .int p1), (2, .int p2)]) C0 dJ13_copyOfRangeByte_8 rfl (by decide) (by first | rfl | simp [zst1, zst2, zcat_rf]) ?_
  refine zr_iload_n C0 dJ13_copyOfRangeByte_9 rfl 0 rfl ?_
  obtain ⟨q4, h5, e6, hf⟩ := zbind2 hf
  refine zr_newa C0 (atype := .byte) (t := 2) q282 rfl (by decide) (fun _ => rfl) dJ13_copyOfRangeByte_10 e6 ?_
  refine zr_astore (i := 4) (lv' := [(4, .ref q4), (3, .int (p2 - p1)), (0, .ref p0), (1, .int p1), (2, .int p2)]) C0 dJ13_copyOfRangeByte_12 (by decide) (by first | rfl | simp [zst1, zst2, zcat_rf]) ?_
  refine zr_aload_n C0 dJ13_copyOfRangeByte_14 rfl 2 rfl ?_
  refine zr_iload_n C0 dJ13_copyOfRangeByte_15 rfl 3 rfl ?_
  refine zr_aload C0 dJ13_copyOfRangeByte_16 0 rfl ?_
  refine zr_iconst C0 (v := 0) dJ13_copyOfRangeByte_18 (by decide) ?_
  refine zr_aload_n C0 dJ13_copyOfRangeByte_19 rfl 2 rfl ?_
  obtain ⟨x7, e8, hf⟩ := zbind hf
  refine zr_alen C0 dJ13_copyOfRangeByte_20 e8 ?_
  refine zr_iload_n C0 dJ13_copyOfRangeByte_21 rfl 3 rfl ?_
  refine zr_isub C0 dJ13_copyOfRangeByte_22 ?_
  refine zr_iload_n C0 dJ13_copyOfRangeByte_23 rfl 1 rfl ?_
  obtain ⟨x11, h9, e10, hf⟩ := zbind2 hf
  refine zr_callS_r C0 cv_J13_304 (m_J12_min C0.2.2.2.2.2.2.1 e10) (by decide) (by decide) rfl rfl (Nat.le_of_ble_eq_true rfl) dJ13_copyOfRangeByte_24 rfl ?_
  obtain ⟨h12, e13, hf⟩ := zbind hf
  refine zr_copy C0 q327 (by decide) (Nat.le_of_ble_eq_true rfl) dJ13_copyOfRangeByte_27 e13 ?_
  refine zr_aload C0 dJ13_copyOfRangeByte_30 0 rfl ?_
  refine zretW hf ?_
  exact zr_aret C0 rfl (Or.inr ⟨_, rfl⟩) dJ13_copyOfRangeByte_32 rfl
def f_J13_copyOfRangeByte (E : zE) (p0 : Nat) (p1 : Int32) (p2 : Int32) (h : zH) : Option (Nat × zH) := f_J13_copyOfRangeByte_b0 E p0 p1 p2 h
theorem m_J13_copyOfRangeByte {l : Launch} (hst : l.stackTraces = false) {D : zD} {B0 : Nat} {E : zE} {p0 : Nat} {p1 : Int32} {p2 : Int32} {h h' : zH} {r : Nat} (hf : f_J13_copyOfRangeByte E p0 p1 p2 h = some (r, h')) : zMet l yJ13_copyOfRangeByte (ws_ yJ13_copyOfRangeByte cJ13_copyOfRangeByte 5 (Option.some (Jvm.ClassFile.FieldType.array Jvm.ClassFile.FieldType.byte))) 2 81 D B0 E [.ref p0, .int p1, .int p2] h (zoR r) h' := by
  unfold f_J13_copyOfRangeByte at hf
  refine zMet_of hst (by decide +kernel) rfl rfl (Nat.le_of_ble_eq_true rfl) (fun p e R s m below meth c C0 hno => ?_)
  show zW _ _ _ _ _ _ _ _ _ _ _ _ _ _ _ _ [(0, .ref p0), (1, .int p1), (2, .int p2)] []
  exact w_J13_copyOfRangeByte_b0 C0 hf
def f_J13_copyOfRange_b10 (E : zE) (p0 : Nat) (p1 : Int32) (p2 : Int32) (h : zH) : Option (Nat × zH) :=
  bnd2 (f_J13_copyOfRangeByte E p0 p1 p2 h) fun x3 h1 =>
  some (x3, h1)
theorem w_J13_copyOfRange_b10 (C0 : zCx p l e R s m args below meth c D B0 3 "java/util/Arrays" cJ13_copyOfRange E 3 105 (Option.some (Jvm.ClassFile.FieldType.array Jvm.ClassFile.FieldType.byte)) "copyOfRange") {r : Nat} {h' : zH} {p0 : Nat} {p1 : Int32} {p2 : Int32} {h : zH} (hf : f_J13_copyOfRange_b10 E p0 p1 p2 h = some (r, h')) : zW p l e R s m args below meth c D B0 3 (zEnd D B0 R below args s (zoR r) h') h 10 [(0, .ref p0), (1, .int p1), (2, .int p2)] [] := by
  unfold f_J13_copyOfRange_b10 at hf
  refine zr_aload_n C0 dJ13_copyOfRange_10 rfl 0 rfl ?_
  refine zr_iload_n C0 dJ13_copyOfRange_11 rfl 1 rfl ?_
  refine zr_iload_n C0 dJ13_copyOfRange_12 rfl 2 rfl ?_
  obtain ⟨x3, h1, e2, hf⟩ := zbind2 hf
  refine zr_callS_r C0 cv_J13_339 (m_J13_copyOfRangeByte C0.2.2.2.2.2.2.1 e2) (by decide) (by decide) rfl rfl (Nat.le_of_ble_eq_true rfl) dJ13_copyOfRange_13 rfl ?_
  refine zretW hf ?_
  exact zr_aret C0 rfl (Or.inr ⟨_, rfl⟩) dJ13_copyOfRange_16 rfl
def f_J13_copyOfRange_b0 (E : zE) (p0 : Nat) (p1 : Int32) (p2 : Int32) (h : zH) : Option (Nat × zH) :=
  if p1 = 0 then (
    (lenA h p0).bind fun x2 =>
    if p2 = x2 then (
      bnd2 (clA h p0) fun q5 h6 =>
      (cka h6 q5 2).bind fun _ =>
      some (q5, h6)
    ) else (
      f_J13_copyOfRange_b10 E p0 p1 p2 h
    )
  ) else (
    f_J13_copyOfRange_b10 E p0 p1 p2 h
  )
theorem w_J13_copyOfRange_b0 (C0 : zCx p l e R s m args below meth c D B0 3 "java/util/Arrays" cJ13_copyOfRange E 3 105 (Option.some (Jvm.ClassFile.FieldType.array Jvm.ClassFile.FieldType.byte)) "copyOfRange") {r : Nat} {h' : zH} {p0 : Nat} {p1 : Int32} {p2 : Int32} {h : zH} (hf : f_J13_copyOfRange_b0 E p0 p1 p2 h = some (r, h')) : zW p l e R s m args below meth c D B0 3 (zEnd D B0 R below args s (zoR r) h') h 0 [(0, .ref p0), (1, .int p1), (2, .int p2)] [] := by
  unfold f_J13_copyOfRange_b0 at hf
  refine zr_iload_n C0 dJ13_copyOfRange_0 rfl 1 rfl ?_
  refine zr_if_ne C0 (tgt := 10) dJ13_copyOfRange_1 (by decide) (fun c1 => ?_) (fun c1 => ?_)
  · have hf := zif_f c1 hf
    exact w_J13_copyOfRange_b10 C0 hf
  · have hf := zif_t c1 hf
    refine zr_iload_n C0 dJ13_copyOfRange_4 rfl 2 rfl ?_
    refine zr_aload_n C0 dJ13_copyOfRange_5 rfl 0 rfl ?_
    obtain ⟨x2, e3, hf⟩ := zbind hf
    refine zr_alen C0 dJ13_copyOfRange_6 e3 ?_
    refine zr_icmp_eq C0 (tgt := 17) dJ13_copyOfRange_7 (by decide) (fun c4 => ?_) (fun c4 => ?_)
    · have hf := zif_t c4 hf
      refine zr_aload_n C0 dJ13_copyOfRange_17 rfl 0 rfl ?_
      obtain ⟨q5, h6, e7, hf⟩ := zbind2 hf
      refine zr_clone C0 q317 (by decide) (Nat.le_of_ble_eq_true rfl) dJ13_copyOfRange_18 e7 ?_
      obtain ⟨_, e8, hf⟩ := zbind hf
      refine zr_castA C0 (t := 2) (by decide) (zcka e8) rfl q323 dJ13_copyOfRange_21 ?_
      refine zretW hf ?_
      exact zr_aret C0 rfl (Or.inr ⟨_, rfl⟩) dJ13_copyOfRange_24 rfl
    · have hf := zif_f c4 hf
      exact w_J13_copyOfRange_b10 C0 hf
def f_J13_copyOfRange (E : zE) (p0 : Nat) (p1 : Int32) (p2 : Int32) (h : zH) : Option (Nat × zH) := f_J13_copyOfRange_b0 E p0 p1 p2 h
theorem m_J13_copyOfRange {l : Launch} (hst : l.stackTraces = false) {D : zD} {B0 : Nat} {E : zE} {p0 : Nat} {p1 : Int32} {p2 : Int32} {h h' : zH} {r : Nat} (hf : f_J13_copyOfRange E p0 p1 p2 h = some (r, h')) : zMet l yJ13_copyOfRange (ws_ yJ13_copyOfRange cJ13_copyOfRange 3 (Option.some (Jvm.ClassFile.FieldType.array Jvm.ClassFile.FieldType.byte))) 3 105 D B0 E [.ref p0, .int p1, .int p2] h (zoR r) h' := by
  unfold f_J13_copyOfRange at hf
  refine zMet_of hst (by decide +kernel) rfl rfl (Nat.le_of_ble_eq_true rfl) (fun p e R s m below meth c C0 hno => ?_)
  show zW _ _ _ _ _ _ _ _ _ _ _ _ _ _ _ _ [(0, .ref p0), (1, .int p1), (2, .int p2)] []
  exact w_J13_copyOfRange_b0 C0 hf
def f_J10_compress_b64 (E : zE) (p3 : Nat) (h : zH) : Option (Nat × zH) :=
  some (p3, h)
theorem w_J10_compress_b64 (C0 : zCx p l e R s m args below meth c D B0 6 "java/lang/StringUTF16" cJ10_compress E 5 153 (Option.some (Jvm.ClassFile.FieldType.array Jvm.ClassFile.FieldType.byte)) "compress") {r : Nat} {h' : zH} {p3 : Nat} {h : zH} (hf : f_J10_compress_b64 E p3 h = some (r, h')) : zW p l e R s m args below meth c D B0 6 (zEnd D B0 R below args s (zoR r) h') h 64 [(3, .ref p3)] [] := by
  unfold f_J10_compress_b64 at hf
  refine zr_aload_n C0 dJ10_compress_64 rfl 0 rfl ?_
  refine zretW hf ?_
  exact zr_aret C0 rfl (Or.inr ⟨_, rfl⟩) dJ10_compress_65 rfl
def f_J10_compress_b61 (E : zE) (p5 : Nat) (h : zH) : Option (Nat × zH) :=
  some (p5, h)
theorem w_J10_compress_b61 (C0 : zCx p l e R s m args below meth c D B0 6 "java/lang/StringUTF16" cJ10_compress E 5 153 (Option.some (Jvm.ClassFile.FieldType.array Jvm.ClassFile.FieldType.byte)) "compress") {r : Nat} {h' : zH} {p5 : Nat} {h : zH} (hf : f_J10_compress_b61 E p5 h = some (r, h')) : zW p l e R s m args below meth c D B0 6 (zEnd D B0 R below args s (zoR r) h') h 61 [(5, .ref p5)] [] := by
  unfold f_J10_compress_b61 at hf
  refine zr_aload C0 dJ10_compress_61 0 rfl ?_
  refine zretW hf ?_
  exact zr_aret C0 rfl (Or.inr ⟨_, rfl⟩) dJ10_compress_63 rfl
def f_J10_compress_b0 (E : zE) (p0 : Nat) (p1 : Int32) (p2 : Int32) (h : zH) : Option (Nat × zH) :=
  bnd2 (nA h 2 p2 (.inl fun _ => 0)) fun q1 h2 =>
  bnd2 (f_J10_compress_2 E p0 p1 q1 (0 : Int32) p2 h2) fun x6 h4 =>
  if x6 = p2 then (
    f_J10_compress_b64 E q1 h4
  ) else (
    bnd2 (f_J10_newBytesLength E (p1 + p2) h4) fun x10 h8 =>
    bnd2 (f_J13_copyOfRange E p0 (p1 <<< ((1 : Int32) &&& 31)) x10 h8) fun x13 h11 =>
    bnd2 (f_J10_getChar E x13 x6 h11) fun x16 h14 =>
    if (255 : Int32) < x16 then (
      f_J10_compress_b61 E x13 h14
    ) else (
      bnd2 (f_J10_compress_2 E x13 (0 : Int32) q1 (0 : Int32) p2 h14) fun x20 h18 =>
      if x20 = p2 then (
        f_J10_compress_b64 E q1 h18
      ) else (
        f_J10_compress_b61 E x13 h18
      )
    )
  )
theorem w_J10_compress_b0 (C0 : zCx p l e R s m args below meth c D B0 6 "java/lang/StringUTF16" cJ10_compress E 5 153 (Option.some (Jvm.ClassFile.FieldType.array Jvm.ClassFile.FieldType.byte)) "compress") {r : Nat} {h' : zH} {p0 : Nat} {p1 : Int32} {p2 : Int32} {h : zH} (hf : f_J10_compress_b0 E p0 p1 p2 h = some (r, h')) : zW p l e R s m args below meth c D B0 6 (zEnd D B0 R below args s (zoR r) h') h 0 [(0, .ref p0), (1, .int p1), (2, .int p2)] [] := by
  unfold f_J10_compress_b0 at hf
  refine zr_iload_n C0 dJ10_compress_0 rfl 2 rfl ?_
  obtain ⟨q1, h2, e3, hf⟩ := zbind2 hf
  refine zr_newa C0 (atype := .byte) (t := 2) q282 rfl (by decide) (fun _ => rfl) dJ10_compress_1 e3 ?_
  refine zr_astore_n (i := 3) (lv' := [(3, .ref q1), (0, .ref p0), (1, .int p1), (2, .int p2)]) C0 dJ10_compress_3 rfl (by decide) (by first | rfl | simp [zst1, zst2, zcat_rf]) ?_
  refine zr_aload_n C0 dJ10_compress_4 rfl 1 rfl ?_
  refine zr_iload_n C0 dJ10_compress_5 rfl 2 rfl ?_
  refine zr_aload_n C0 dJ10_compress_6 rfl 0 rfl ?_
  refine zr_iconst C0 (v := 0) dJ10_compress_7 (by decide) ?_
  refine zr_iload_n C0 dJ10_compress_8 rfl 3 rfl ?_
  obtain ⟨x6, h4, e5, hf⟩ := zbind2 hf
  refine zr_callS_r C0 cv_J10_123 (m_J10_compress_2 C0.2.2.2.2.2.2.1 e5) (by decide) (by decide) rfl rfl (Nat.le_of_ble_eq_true rfl) dJ10_compress_9 rfl ?_
  refine zr_istore (i := 4) (lv' := [(4, .int x6), (3, .ref q1), (0, .ref p0), (1, .int p1), (2, .int p2)]) C0 dJ10_compress_12 (by decide) (by first | rfl | simp [zst1, zst2, zcat_rf]) ?_
  refine zr_iload C0 dJ10_compress_14 0 rfl ?_
  refine zr_iload_n C0 dJ10_compress_16 rfl 4 rfl ?_
  refine zr_icmp_eq C0 (tgt := 64) dJ10_compress_17 (by decide) (fun c7 => ?_) (fun c7 => ?_)
  · have hf := zif_t c7 hf
    refine zr_sub [1] rfl ?_
    exact w_J10_compress_b64 C0 hf
  · have hf := zif_f c7 hf
    refine zr_aload_n C0 dJ10_compress_20 rfl 2 rfl ?_
    refine zr_iload_n C0 dJ10_compress_21 rfl 3 rfl ?_
    refine zr_iconst C0 (v := 1) dJ10_compress_22 (by decide) ?_
    refine zr_ishl C0 dJ10_compress_23 ?_
    refine zr_iload_n C0 dJ10_compress_24 rfl 3 rfl ?_
    refine zr_iload_n C0 dJ10_compress_25 rfl 4 rfl ?_
    refine zr_iadd C0 dJ10_compress_26 ?_
    obtain ⟨x10, h8, e9, hf⟩ := zbind2 hf
    refine zr_callS_r C0 cv_J10_11 (m_J10_newBytesLength C0.2.2.2.2.2.2.1 e9) (by decide) (by decide) rfl rfl (Nat.le_of_ble_eq_true rfl) dJ10_compress_27 rfl ?_
    obtain ⟨x13, h11, e12, hf⟩ := zbind2 hf
    refine zr_callS_r C0 cv_J10_126 (m_J13_copyOfRange C0.2.2.2.2.2.2.1 e12) (by decide) (by decide) rfl rfl (Nat.le_of_ble_eq_true rfl) dJ10_compress_30 rfl ?_
    refine zr_astore (i := 5) (lv' := [(5, .ref x13), (4, .int x6), (3, .ref q1), (0, .ref p0), (1, .int p1), (2, .int p2)]) C0 dJ10_compress_33 (by decide) (by first | rfl | simp [zst1, zst2, zcat_rf]) ?_
    refine zr_aload C0 dJ10_compress_35 0 rfl ?_
    refine zr_iload C0 dJ10_compress_37 1 rfl ?_
    obtain ⟨x16, h14, e15, hf⟩ := zbind2 hf
    refine zr_callS_r C0 cv_J10_71 (m_J10_getChar C0.2.2.2.2.2.2.1 e15) (by decide) (by decide) rfl rfl (Nat.le_of_ble_eq_true rfl) dJ10_compress_39 rfl ?_
    refine zr_sipush C0 (v := 255) dJ10_compress_42 (by decide) ?_
    refine zr_icmp_gt C0 (tgt := 61) dJ10_compress_45 (by decide) (fun c17 => ?_) (fun c17 => ?_)
    · have hf := zif_t c17 hf
      refine zr_sub [0] rfl ?_
      exact w_J10_compress_b61 C0 hf
    · have hf := zif_f c17 hf
      refine zr_aload C0 dJ10_compress_48 0 rfl ?_
      refine zr_iconst C0 (v := 0) dJ10_compress_50 (by decide) ?_
      refine zr_aload_n C0 dJ10_compress_51 rfl 2 rfl ?_
      refine zr_iconst C0 (v := 0) dJ10_compress_52 (by decide) ?_
      refine zr_iload_n C0 dJ10_compress_53 rfl 5 rfl ?_
      obtain ⟨x20, h18, e19, hf⟩ := zbind2 hf
      refine zr_callS_r C0 cv_J10_123 (m_J10_compress_2 C0.2.2.2.2.2.2.1 e19) (by decide) (by decide) rfl rfl (Nat.le_of_ble_eq_true rfl) dJ10_compress_54 rfl ?_
      refine zr_iload_n C0 dJ10_compress_57 rfl 5 rfl ?_
      refine zr_icmp_eq C0 (tgt := 64) dJ10_compress_58 (by decide) (fun c21 => ?_) (fun c21 => ?_)
      · have hf := zif_t c21 hf
        refine zr_sub [2] rfl ?_
        exact w_J10_compress_b64 C0 hf
      · have hf := zif_f c21 hf
        refine zr_sub [0] rfl ?_
        exact w_J10_compress_b61 C0 hf
def f_J10_compress (E : zE) (p0 : Nat) (p1 : Int32) (p2 : Int32) (h : zH) : Option (Nat × zH) := f_J10_compress_b0 E p0 p1 p2 h
theorem m_J10_compress {l : Launch} (hst : l.stackTraces = false) {D : zD} {B0 : Nat} {E : zE} {p0 : Nat} {p1 : Int32} {p2 : Int32} {h h' : zH} {r : Nat} (hf : f_J10_compress E p0 p1 p2 h = some (r, h')) : zMet l yJ10_compress (ws_ yJ10_compress cJ10_compress 6 (Option.some (Jvm.ClassFile.FieldType.array Jvm.ClassFile.FieldType.byte))) 5 153 D B0 E [.ref p0, .int p1, .int p2] h (zoR r) h' := by
  unfold f_J10_compress at hf
  refine zMet_of hst (by decide +kernel) rfl rfl (Nat.le_of_ble_eq_true rfl) (fun p e R s m below meth c C0 hno => ?_)
  show zW _ _ _ _ _ _ _ _ _ _ _ _ _ _ _ _ [(0, .ref p0), (1, .int p1), (2, .int p2)] []
  exact w_J10_compress_b0 C0 hf
def f_J10_coderFromArrayLen_b0 (E : zE) (p0 : Nat) (p1 : Int32) (h : zH) : Option (Int32 × zH) :=
  (lenA h p0).bind fun x1 =>
  (zgd .byte ((((p1 - x1).toUInt32 >>> ((31 : Int32).toUInt32 &&& Int32.toUInt32 31)).toInt32).toInt8.toInt32)).bind fun _ =>
  some (((((p1 - x1).toUInt32 >>> ((31 : Int32).toUInt32 &&& Int32.toUInt32 31)).toInt32).toInt8.toInt32), h)
theorem w_J10_coderFromArrayLen_b0 (C0 : zCx p l e R s m args below meth c D B0 2 "java/lang/StringUTF16" cJ10_coderFromArrayLen E 1 60 (Option.some Jvm.ClassFile.FieldType.byte) "coderFromArrayLen") {r : Int32} {h' : zH} {p0 : Nat} {p1 : Int32} {h : zH} (hf : f_J10_coderFromArrayLen_b0 E p0 p1 h = some (r, h')) : zW p l e R s m args below meth c D B0 2 (zEnd D B0 R below args s (zoI r) h') h 0 [(0, .ref p0), (1, .int p1)] [] := by
  unfold f_J10_coderFromArrayLen_b0 at hf
  refine zr_iload_n C0 dJ10_coderFromArrayLen_0 rfl 1 rfl ?_
  refine zr_aload_n C0 dJ10_coderFromArrayLen_1 rfl 0 rfl ?_
  obtain ⟨x1, e2, hf⟩ := zbind hf
  refine zr_alen C0 dJ10_coderFromArrayLen_2 e2 ?_
  refine zr_isub C0 dJ10_coderFromArrayLen_3 ?_
  refine zr_bipush C0 (v := 31) dJ10_coderFromArrayLen_4 (by decide) ?_
  refine zr_iushr C0 dJ10_coderFromArrayLen_6 ?_
  refine zr_i2b C0 dJ10_coderFromArrayLen_7 ?_
  obtain ⟨_, e3, hf⟩ := zbind hf
  refine zretW hf ?_
  exact zr_iret C0 (ty := .byte) rfl (zgd_n e3) dJ10_coderFromArrayLen_8 rfl
def f_J10_coderFromArrayLen (E : zE) (p0 : Nat) (p1 : Int32) (h : zH) : Option (Int32 × zH) := f_J10_coderFromArrayLen_b0 E p0 p1 h
theorem m_J10_coderFromArrayLen {l : Launch} (hst : l.stackTraces = false) {D : zD} {B0 : Nat} {E : zE} {p0 : Nat} {p1 : Int32} {h h' : zH} {r : Int32} (hf : f_J10_coderFromArrayLen E p0 p1 h = some (r, h')) : zMet l yJ10_coderFromArrayLen (ws_ yJ10_coderFromArrayLen cJ10_coderFromArrayLen 2 (Option.some Jvm.ClassFile.FieldType.byte)) 1 60 D B0 E [.ref p0, .int p1] h (zoI r) h' := by
  unfold f_J10_coderFromArrayLen at hf
  refine zMet_of hst (by decide +kernel) rfl rfl (Nat.le_of_ble_eq_true rfl) (fun p e R s m below meth c C0 hno => ?_)
  show zW _ _ _ _ _ _ _ _ _ _ _ _ _ _ _ _ [(0, .ref p0), (1, .int p1)] []
  exact w_J10_coderFromArrayLen_b0 C0 hf
def f_J9_init_2_b97 (E : zE) (h : zH) : Option (Unit × zH) :=
  some ((), h)
theorem w_J9_init_2_b97 (C0 : zCx p l e R s m args below meth c D B0 5 "java/lang/String" cJ9_init_2 E 6 178 (Option.none : Option Jvm.ClassFile.FieldType) "<init>") {r : Unit} {h' : zH} {h : zH} (hf : f_J9_init_2_b97 E  h = some (r, h')) : zW p l e R s m args below meth c D B0 5 (zEnd D B0 R below args s (zoV r) h') h 97 [] [] := by
  unfold f_J9_init_2_b97 at hf
  refine zretW hf ?_
  exact zr_vret C0 rfl dJ9_init_2_97 rfl
def f_J9_init_2_b79 (E : zE) (p0 : Nat) (p3 : Nat) (p4 : Int32) (h : zH) : Option (Unit × zH) :=
  (pF h p0 19 1 (.int (1 : Int32))).bind fun h1 =>
  bnd2 (f_J13_copyOfRange E p3 (0 : Int32) (p4 <<< ((1 : Int32) &&& 31)) h1) fun x5 h3 =>
  (pF h3 p0 19 0 (.ref x5)).bind fun h6 =>
  f_J9_init_2_b97 E  h6
theorem w_J9_init_2_b79 (C0 : zCx p l e R s m args below meth c D B0 5 "java/lang/String" cJ9_init_2 E 6 178 (Option.none : Option Jvm.ClassFile.FieldType) "<init>") {r : Unit} {h' : zH} {p0 : Nat} {p3 : Nat} {p4 : Int32} {h : zH} (hf : f_J9_init_2_b79 E p0 p3 p4 h = some (r, h')) : zW p l e R s m args below meth c D B0 5 (zEnd D B0 R below args s (zoV r) h') h 79 [(0, .ref p0), (3, .ref p3), (4, .int p4)] [] := by
  unfold f_J9_init_2_b79 at hf
  refine zr_aload_n C0 dJ9_init_2_79 rfl 0 rfl ?_
  refine zr_iconst C0 (v := 1) dJ9_init_2_80 (by decide) ?_
  obtain ⟨h1, e2, hf⟩ := zbind hf
  refine zr_put C0 pl_J9_15_J9 dJ9_init_2_81 (fun _ => rfl) (by decide) (by decide) e2 ?_
  refine zr_aload_n C0 dJ9_init_2_84 rfl 0 rfl ?_
  refine zr_aload_n C0 dJ9_init_2_85 rfl 1 rfl ?_
  refine zr_iconst C0 (v := 0) dJ9_init_2_86 (by decide) ?_
  refine zr_iload C0 dJ9_init_2_87 2 rfl ?_
  refine zr_iconst C0 (v := 1) dJ9_init_2_89 (by decide) ?_
  refine zr_ishl C0 dJ9_init_2_90 ?_
  obtain ⟨x5, h3, e4, hf⟩ := zbind2 hf
  refine zr_callS_r C0 cv_J9_54 (m_J13_copyOfRange C0.2.2.2.2.2.2.1 e4) (by decide) (by decide) rfl rfl (Nat.le_of_ble_eq_true rfl) dJ9_init_2_91 rfl ?_
  obtain ⟨h6, e7, hf⟩ := zbind hf
  refine zr_put C0 pl_J9_9_J9 dJ9_init_2_94 (fun _ => rfl) rfl rfl e7 ?_
  refine zr_sub [] rfl ?_
  exact w_J9_init_2_b97 C0 hf
def f_J9_init_2_b0 (E : zE) (p0 : Nat) (p1 : Nat) (p2 : Option Nat) (h : zH) : Option (Unit × zH) :=
  (cko h p1 18).bind fun _ =>
  bnd2 (f_J7_getValue E p1 h) fun x4 h2 =>
  (cko h2 p1 18).bind fun _ =>
  bnd2 (f_J8_length E p1 h2) fun x8 h6 =>
  (cko h6 p1 18).bind fun _ =>
  bnd2 (f_J7_isLatin1 E p1 h6) fun x12 h10 =>
  if x12 = 0 then (
    if (1 : Int32) = 0 then (
      f_J9_init_2_b79 E p0 x4 x8 h10
    ) else (
      (gI h10 p1 18 2).bind fun x15 =>
      if x15 = 0 then (
        f_J9_init_2_b79 E p0 x4 x8 h10
      ) else (
        bnd2 (f_J10_compress E x4 (0 : Int32) x8 h10) fun x20 h18 =>
        (pF h18 p0 19 0 (.ref x20)).bind fun h21 =>
        (gR h21 p0 19 0).bind fun x23 =>
        bnd2 (f_J10_coderFromArrayLen E x23 x8 h21) fun x27 h25 =>
        (zgd .byte x27).bind fun _ =>
        (pF h25 p0 19 1 (.int x27)).bind fun h29 =>
        some ((), h29)
      )
    )
  ) else (
    (pF h10 p0 19 1 (.int (0 : Int32))).bind fun h31 =>
    bnd2 (f_J13_copyOfRange E x4 (0 : Int32) x8 h31) fun x35 h33 =>
    (pF h33 p0 19 0 (.ref x35)).bind fun h36 =>
    f_J9_init_2_b97 E  h36
  )
theorem w_J9_init_2_b0 (C0 : zCx p l e R s m args below meth c D B0 5 "java/lang/String" cJ9_init_2 E 6 178 (Option.none : Option Jvm.ClassFile.FieldType) "<init>") {r : Unit} {h' : zH} {p0 : Nat} {p1 : Nat} {p2 : Option Nat} {h : zH} (hf : f_J9_init_2_b0 E p0 p1 p2 h = some (r, h')) : zW p l e R s m args below meth c D B0 5 (zEnd D B0 R below args s (zoV r) h') h 0 [(0, .ref p0), (1, .ref p1), (2, va_rf p2)] [] := by
  unfold f_J9_init_2_b0 at hf
  refine zr_aload_n C0 dJ9_init_2_0 rfl 0 rfl ?_
  refine zr_objInit C0 q441 q182 q183 dJ9_init_2_1 (by decide) (by show _ ≤ _; exact Nat.le_of_ble_eq_true rfl) ?_
  refine zr_aload_n C0 dJ9_init_2_4 rfl 1 rfl ?_
  obtain ⟨_, e1, hf⟩ := zbind hf
  obtain ⟨x4, h2, e3, hf⟩ := zbind2 hf
  refine zr_callU_r C0 cv_J9_552_J8 rfl (zcko e1) (m_J7_getValue C0.2.2.2.2.2.2.1 e3) (by decide) (by decide) rfl rfl (Nat.le_of_ble_eq_true rfl) dJ9_init_2_5 rfl ?_
  refine zr_astore_n (i := 3) (lv' := [(3, .ref x4), (0, .ref p0), (1, .ref p1), (2, va_rf p2)]) C0 dJ9_init_2_8 rfl (by decide) (by first | rfl | simp [zst1, zst2, zcat_rf]) ?_
  refine zr_aload_n C0 dJ9_init_2_9 rfl 2 rfl ?_
  obtain ⟨_, e5, hf⟩ := zbind hf
  obtain ⟨x8, h6, e7, hf⟩ := zbind2 hf
  refine zr_callO_r C0 cv_J9_549_J8 rfl (zcko e5) (m_J8_length C0.2.2.2.2.2.2.1 e7) (by decide) (by decide) rfl rfl (Nat.le_of_ble_eq_true rfl) dJ9_init_2_10 rfl ?_
  refine zr_istore (i := 4) (lv' := [(4, .int x8), (3, .ref x4), (0, .ref p0), (1, .ref p1), (2, va_rf p2)]) C0 dJ9_init_2_13 (by decide) (by first | rfl | simp [zst1, zst2, zcat_rf]) ?_
  refine zr_aload_n C0 dJ9_init_2_15 rfl 3 rfl ?_
  obtain ⟨_, e9, hf⟩ := zbind hf
  obtain ⟨x12, h10, e11, hf⟩ := zbind2 hf
  refine zr_callU_r C0 cv_J9_1047_J8 rfl (zcko e9) (m_J7_isLatin1 C0.2.2.2.2.2.2.1 e11) (by decide) (by decide) rfl rfl (Nat.le_of_ble_eq_true rfl) dJ9_init_2_16 rfl ?_
  refine zr_if_eq C0 (tgt := 41) dJ9_init_2_19 (by decide) (fun c13 => ?_) (fun c13 => ?_)
  · have hf := zif_t c13 hf
    refine zr_gets C0 (C0.2.2.2.2.2.2.2.2.2.1.2.2.1 _ (List.mem_of_getElem? (i := 0) rfl)) q369 dJ9_init_2_41 ?_
    refine zr_if_eq C0 (tgt := 79) dJ9_init_2_44 (by decide) (fun c14 => ?_) (fun c14 => ?_)
    · have hf := zif_t c14 hf
      refine zr_sub [2, 1, 0] rfl ?_
      exact w_J9_init_2_b79 C0 hf
    · have hf := zif_f c14 hf
      refine zr_aload_n C0 dJ9_init_2_47 rfl 3 rfl ?_
      obtain ⟨x15, e16, hf⟩ := zbind hf
      refine zr_get C0 fl_J9_1048_J8 dJ9_init_2_48 (zgI e16) ?_
      refine zr_if_eq C0 (tgt := 79) dJ9_init_2_51 (by decide) (fun c17 => ?_) (fun c17 => ?_)
      · have hf := zif_t c17 hf
        refine zr_sub [2, 1, 0] rfl ?_
        exact w_J9_init_2_b79 C0 hf
      · have hf := zif_f c17 hf
        refine zr_aload_n C0 dJ9_init_2_54 rfl 2 rfl ?_
        refine zr_aload_n C0 dJ9_init_2_55 rfl 1 rfl ?_
        refine zr_iconst C0 (v := 0) dJ9_init_2_56 (by decide) ?_
        refine zr_iload C0 dJ9_init_2_57 0 rfl ?_
        obtain ⟨x20, h18, e19, hf⟩ := zbind2 hf
        refine zr_callS_r C0 cv_J9_1051 (m_J10_compress C0.2.2.2.2.2.2.1 e19) (by decide) (by decide) rfl rfl (Nat.le_of_ble_eq_true rfl) dJ9_init_2_59 rfl ?_
        obtain ⟨h21, e22, hf⟩ := zbind hf
        refine zr_put C0 pl_J9_9_J9 dJ9_init_2_62 (fun _ => rfl) rfl rfl e22 ?_
        refine zr_aload_n C0 dJ9_init_2_65 rfl 2 rfl ?_
        refine zr_aload_n C0 dJ9_init_2_66 rfl 2 rfl ?_
        obtain ⟨x23, e24, hf⟩ := zbind hf
        refine zr_get C0 fl_J9_9_J9 dJ9_init_2_67 (zgR e24) ?_
        refine zr_iload C0 dJ9_init_2_70 0 rfl ?_
        obtain ⟨x27, h25, e26, hf⟩ := zbind2 hf
        refine zr_callS_r C0 cv_J9_47 (m_J10_coderFromArrayLen C0.2.2.2.2.2.2.1 e26) (by decide) (by decide) rfl rfl (Nat.le_of_ble_eq_true rfl) dJ9_init_2_72 rfl ?_
        obtain ⟨_, e28, hf⟩ := zbind hf
        obtain ⟨h29, e30, hf⟩ := zbind hf
        refine zr_put C0 pl_J9_15_J9 dJ9_init_2_75 (fun _ => rfl) (zgd_n e28) (zgd_f e28) e30 ?_
        refine zretW hf ?_
        exact zr_vret C0 rfl dJ9_init_2_78 rfl
  · have hf := zif_f c13 hf
    refine zr_aload_n C0 dJ9_init_2_22 rfl 2 rfl ?_
    refine zr_iconst C0 (v := 0) dJ9_init_2_23 (by decide) ?_
    obtain ⟨h31, e32, hf⟩ := zbind hf
    refine zr_put C0 pl_J9_15_J9 dJ9_init_2_24 (fun _ => rfl) (by decide) (by decide) e32 ?_
    refine zr_aload_n C0 dJ9_init_2_27 rfl 2 rfl ?_
    refine zr_aload_n C0 dJ9_init_2_28 rfl 1 rfl ?_
    refine zr_iconst C0 (v := 0) dJ9_init_2_29 (by decide) ?_
    refine zr_iload C0 dJ9_init_2_30 0 rfl ?_
    obtain ⟨x35, h33, e34, hf⟩ := zbind2 hf
    refine zr_callS_r C0 cv_J9_54 (m_J13_copyOfRange C0.2.2.2.2.2.2.1 e34) (by decide) (by decide) rfl rfl (Nat.le_of_ble_eq_true rfl) dJ9_init_2_32 rfl ?_
    obtain ⟨h36, e37, hf⟩ := zbind hf
    refine zr_put C0 pl_J9_9_J9 dJ9_init_2_35 (fun _ => rfl) rfl rfl e37 ?_
    refine zr_goto C0 (tgt := 97) dJ9_init_2_38 (by decide) ?_
    refine zr_sub [] rfl ?_
    exact w_J9_init_2_b97 C0 hf
def f_J9_init_2 (E : zE) (p0 : Nat) (p1 : Nat) (p2 : Option Nat) (h : zH) : Option (Unit × zH) := f_J9_init_2_b0 E p0 p1 p2 h
theorem m_J9_init_2 {l : Launch} (hst : l.stackTraces = false) {D : zD} {B0 : Nat} {E : zE} {p0 : Nat} {p1 : Nat} {p2 : Option Nat} {h h' : zH} {r : Unit} (hf : f_J9_init_2 E p0 p1 p2 h = some (r, h')) : zMet l yJ9_init_2 (ws_ yJ9_init_2 cJ9_init_2 5 (Option.none : Option Jvm.ClassFile.FieldType)) 6 178 D B0 E [.ref p0, .ref p1, va_rf p2] h (zoV r) h' := by
  unfold f_J9_init_2 at hf
  refine zMet_of hst (by decide +kernel) rfl rfl (by cases p2 <;> exact Nat.le_of_ble_eq_true rfl) (fun p e R s m below meth c C0 hno => ?_)
  rw [show lv_args 0 [.ref p0, .ref p1, va_rf p2] = [(0, .ref p0), (1, .ref p1), (2, va_rf p2)] from (by cases p2 <;> rfl)]
  exact w_J9_init_2_b0 C0 hf
def f_J9_init_b0 (E : zE) (p0 : Nat) (p1 : Nat) (h : zH) : Option (Unit × zH) :=
  bnd2 (f_J9_init_2 E p0 p1 none h) fun x3 h1 =>
  some ((), h1)
theorem w_J9_init_b0 (C0 : zCx p l e R s m args below meth c D B0 2 "java/lang/String" cJ9_init E 7 202 (Option.none : Option Jvm.ClassFile.FieldType) "<init>") {r : Unit} {h' : zH} {p0 : Nat} {p1 : Nat} {h : zH} (hf : f_J9_init_b0 E p0 p1 h = some (r, h')) : zW p l e R s m args below meth c D B0 2 (zEnd D B0 R below args s (zoV r) h') h 0 [(0, .ref p0), (1, .ref p1)] [] := by
  unfold f_J9_init_b0 at hf
  refine zr_aload_n C0 dJ9_init_0 rfl 0 rfl ?_
  refine zr_aload_n C0 dJ9_init_1 rfl 1 rfl ?_
  refine zr_null C0 dJ9_init_2 ?_
  obtain ⟨x3, h1, e2, hf⟩ := zbind2 hf
  refine zr_callI_r C0 cv_J9_489 (m_J9_init_2 C0.2.2.2.2.2.2.1 e2) (by decide) (by decide) rfl rfl (Nat.le_of_ble_eq_true rfl) dJ9_init_3 rfl ?_
  refine zretW hf ?_
  exact zr_vret C0 rfl dJ9_init_6 rfl
def f_J9_init (E : zE) (p0 : Nat) (p1 : Nat) (h : zH) : Option (Unit × zH) := f_J9_init_b0 E p0 p1 h
theorem m_J9_init {l : Launch} (hst : l.stackTraces = false) {D : zD} {B0 : Nat} {E : zE} {p0 : Nat} {p1 : Nat} {h h' : zH} {r : Unit} (hf : f_J9_init E p0 p1 h = some (r, h')) : zMet l yJ9_init (ws_ yJ9_init cJ9_init 2 (Option.none : Option Jvm.ClassFile.FieldType)) 7 202 D B0 E [.ref p0, .ref p1] h (zoV r) h' := by
  unfold f_J9_init at hf
  refine zMet_of hst (by decide +kernel) rfl rfl (Nat.le_of_ble_eq_true rfl) (fun p e R s m below meth c C0 hno => ?_)
  show zW _ _ _ _ _ _ _ _ _ _ _ _ _ _ _ _ [(0, .ref p0), (1, .ref p1)] []
  exact w_J9_init_b0 C0 hf
def f_J8_toString_b0 (E : zE) (p0 : Nat) (h : zH) : Option (Nat × zH) :=
  bnd2 (nO h 19 4 [.null, .int 0, .int 0, .int 0]) fun q1 h2 =>
  bnd2 (f_J9_init E q1 p0 h2) fun x6 h4 =>
  some (q1, h4)
theorem w_J8_toString_b0 (C0 : zCx p l e R s m args below meth c D B0 1 "java/lang/StringBuilder" cJ8_toString E 8 223 (Option.some (Jvm.ClassFile.FieldType.object "java/lang/String")) "toString") {r : Nat} {h' : zH} {p0 : Nat} {h : zH} (hf : f_J8_toString_b0 E p0 h = some (r, h')) : zW p l e R s m args below meth c D B0 1 (zEnd D B0 R below args s (zoR r) h') h 0 [(0, .ref p0)] [] := by
  unfold f_J8_toString_b0 at hf
  obtain ⟨q1, h2, e3, hf⟩ := zbind2 hf
  refine zr_newc C0 (C := RJ9) (T := TJ9) (N := 4) rfl in_J9 tyJ9_ok q433 q434 q140 nw_J9 dJ8_toString_0 e3 ?_
  refine zr_dup C0 dJ8_toString_3 rfl ?_
  refine zr_aload_n C0 dJ8_toString_4 rfl 0 rfl ?_
  obtain ⟨x6, h4, e5, hf⟩ := zbind2 hf
  refine zr_callI_r C0 cv_J8_137 (m_J9_init C0.2.2.2.2.2.2.1 e5) (by decide) (by decide) rfl rfl (Nat.le_of_ble_eq_true rfl) dJ8_toString_5 rfl ?_
  refine zretW hf ?_
  exact zr_aret C0 rfl (Or.inl ⟨_, rfl⟩) dJ8_toString_8 rfl
def f_J8_toString (E : zE) (p0 : Nat) (h : zH) : Option (Nat × zH) := f_J8_toString_b0 E p0 h
theorem m_J8_toString {l : Launch} (hst : l.stackTraces = false) {D : zD} {B0 : Nat} {E : zE} {p0 : Nat} {h h' : zH} {r : Nat} (hf : f_J8_toString E p0 h = some (r, h')) : zMet l yJ8_toString (ws_ yJ8_toString cJ8_toString 1 (Option.some (Jvm.ClassFile.FieldType.object "java/lang/String"))) 8 223 D B0 E [.ref p0] h (zoR r) h' := by
  unfold f_J8_toString at hf
  refine zMet_of hst (by decide +kernel) rfl rfl (Nat.le_of_ble_eq_true rfl) (fun p e R s m below meth c C0 hno => ?_)
  show zW _ _ _ _ _ _ _ _ _ _ _ _ _ _ _ _ [(0, .ref p0)] []
  exact w_J8_toString_b0 C0 hf
def f_X7_scanWord_b82 (E : zE) (s0 : Nat) (s1 : Int32) (h : zH) : Option (Unit × zH) :=
  (pF h s0 6 5 (.int s1)).bind fun h1 =>
  some ((), h1)
theorem w_X7_scanWord_b82 (C0 : zCx p l e R s m args below meth c D B0 2 "FranchiseLedger$Reader" cX7_scanWord E 9 243 (Option.none : Option Jvm.ClassFile.FieldType) "scanWord") {r : Unit} {h' : zH} {s0 : Nat} {s1 : Int32} {h : zH} (hf : f_X7_scanWord_b82 E s0 s1 h = some (r, h')) : zW p l e R s m args below meth c D B0 2 (zEnd D B0 R below args s (zoV r) h') h 82 [] [.int s1, .ref s0] := by
  unfold f_X7_scanWord_b82 at hf
  obtain ⟨h1, e2, hf⟩ := zbind hf
  refine zr_put C0 pl_X7_79_X7 dX7_scanWord_82 (fun h => by cases h) rfl rfl e2 ?_
  refine zretW hf ?_
  exact zr_vret C0 rfl dX7_scanWord_85 rfl
def f_X7_scanWord_b41 (E : zE) (k10 : Nat → Nat → zH → Option (Unit × zH)) (p0 : Nat) (p1 : Nat) (h : zH) : Option (Unit × zH) :=
  (gI h p0 6 3).bind fun x1 =>
  (pF h p0 6 3 (.int (x1 + (1 : Int32)))).bind fun h3 =>
  k10 p0 p1 h3
theorem w_X7_scanWord_b41 (C0 : zCx p l e R s m args below meth c D B0 2 "FranchiseLedger$Reader" cX7_scanWord E 9 243 (Option.none : Option Jvm.ClassFile.FieldType) "scanWord") {r : Unit} {h' : zH} {k10 : Nat → Nat → zH → Option (Unit × zH)} (hk10 : ∀ (p0 : Nat) (p1 : Nat) (h : zH), k10 p0 p1 h = some (r, h') → zW p l e R s m args below meth c D B0 2 (zEnd D B0 R below args s (zoV r) h') h 10 [(0, .ref p0), (1, .ref p1)] []) {p0 : Nat} {p1 : Nat} {h : zH} (hf : f_X7_scanWord_b41 E k10 p0 p1 h = some (r, h')) : zW p l e R s m args below meth c D B0 2 (zEnd D B0 R below args s (zoV r) h') h 41 [(0, .ref p0), (1, .ref p1)] [] := by
  unfold f_X7_scanWord_b41 at hf
  refine zr_aload_n C0 dX7_scanWord_41 rfl 0 rfl ?_
  refine zr_dup C0 dX7_scanWord_42 rfl ?_
  obtain ⟨x1, e2, hf⟩ := zbind hf
  refine zr_get C0 fl_X7_53_X7 dX7_scanWord_43 (zgI e2) ?_
  refine zr_iconst C0 (v := 1) dX7_scanWord_46 (by decide) ?_
  refine zr_iadd C0 dX7_scanWord_47 ?_
  obtain ⟨h3, e4, hf⟩ := zbind hf
  refine zr_put C0 pl_X7_53_X7 dX7_scanWord_48 (fun h => by cases h) rfl rfl e4 ?_
  refine zr_goto C0 (tgt := 10) dX7_scanWord_51 (by decide) ?_
  exact hk10 _ _ _ hf
def f_X7_scanWord_l10 (E : zE) : Nat → Nat → Nat → zH → Option (Unit × zH)
  | 0, _, _, _ => none
  | n + 1, p0, p1, h =>
    (cko h p0 6).bind fun _ =>
    bnd2 (f_X7_isLetter E p0 h) fun x4 h2 =>
    if x4 = 0 then (
      (cko h2 p1 18).bind fun _ =>
      bnd2 (f_J8_toString E p1 h2) fun x9 h7 =>
      (pF h7 p0 6 7 (.ref x9)).bind fun h10 =>
      (gI h10 p0 6 3).bind fun x12 =>
      (gI h10 p0 6 4).bind fun x14 =>
      if (x12 - x14) ≤ (10 : Int32) then (
        f_X7_scanWord_b82 E p0 (1 : Int32) h10
      ) else (
        f_X7_scanWord_b82 E p0 (4 : Int32) h10
      )
    ) else (
      (gI h2 p0 6 3).bind fun x17 =>
      (gI h2 p0 6 4).bind fun x19 =>
      if (10 : Int32) ≤ (x17 - x19) then (
        f_X7_scanWord_b41 E (f_X7_scanWord_l10 E n) p0 p1 h2
      ) else (
        (cko h2 p0 6).bind fun _ =>
        bnd2 (f_X7_peek E p0 h2) fun x25 h23 =>
        (cko h23 p1 18).bind fun _ =>
        bnd2 (f_J8_append_3 E p1 ((x25.toUInt32 % 65536).toInt32) h23) fun x29 h27 =>
        f_X7_scanWord_b41 E (f_X7_scanWord_l10 E n) p0 p1 h27
      )
    )
theorem w_X7_scanWord_l10 (C0 : zCx p l e R s m args below meth c D B0 2 "FranchiseLedger$Reader" cX7_scanWord E 9 243 (Option.none : Option Jvm.ClassFile.FieldType) "scanWord") {r : Unit} {h' : zH} : ∀ (n : Nat) (p0 : Nat) (p1 : Nat) (h : zH), f_X7_scanWord_l10 E n p0 p1 h = some (r, h') → zW p l e R s m args below meth c D B0 2 (zEnd D B0 R below args s (zoV r) h') h 10 [(0, .ref p0), (1, .ref p1)] [] := by
  intro n
  induction n with
  | zero =>
    intro p0 p1 h hf
    unfold f_X7_scanWord_l10 at hf
    cases hf
  | succ n ih =>
    intro p0 p1 h hf
    unfold f_X7_scanWord_l10 at hf
    refine zr_aload_n C0 dX7_scanWord_10 rfl 0 rfl ?_
    obtain ⟨_, e1, hf⟩ := zbind hf
    obtain ⟨x4, h2, e3, hf⟩ := zbind2 hf
    refine zr_callV_r C0 cv_X7_82_X7 rfl (zcko e1) (m_X7_isLetter C0.2.2.2.2.2.2.1 e3) (by decide) (by decide) rfl rfl (Nat.le_of_ble_eq_true rfl) dX7_scanWord_11 rfl ?_
    refine zr_if_eq C0 (tgt := 54) dX7_scanWord_14 (by decide) (fun c5 => ?_) (fun c5 => ?_)
    · have hf := zif_t c5 hf
      refine zr_aload_n C0 dX7_scanWord_54 rfl 0 rfl ?_
      refine zr_aload_n C0 dX7_scanWord_55 rfl 1 rfl ?_
      obtain ⟨_, e6, hf⟩ := zbind hf
      obtain ⟨x9, h7, e8, hf⟩ := zbind2 hf
      refine zr_callV_r C0 cv_X7_104_J8 rfl (zcko e6) (m_J8_toString C0.2.2.2.2.2.2.1 e8) (by decide) (by decide) rfl rfl (Nat.le_of_ble_eq_true rfl) dX7_scanWord_56 rfl ?_
      obtain ⟨h10, e11, hf⟩ := zbind hf
      refine zr_put C0 pl_X7_33_X7 dX7_scanWord_59 (fun h => by cases h) rfl rfl e11 ?_
      refine zr_aload_n C0 dX7_scanWord_62 rfl 0 rfl ?_
      refine zr_aload_n C0 dX7_scanWord_63 rfl 0 rfl ?_
      obtain ⟨x12, e13, hf⟩ := zbind hf
      refine zr_get C0 fl_X7_53_X7 dX7_scanWord_64 (zgI e13) ?_
      refine zr_aload_n C0 dX7_scanWord_67 rfl 0 rfl ?_
      obtain ⟨x14, e15, hf⟩ := zbind hf
      refine zr_get C0 fl_X7_76_X7 dX7_scanWord_68 (zgI e15) ?_
      refine zr_isub C0 dX7_scanWord_71 ?_
      refine zr_bipush C0 (v := 10) dX7_scanWord_72 (by decide) ?_
      refine zr_icmp_le C0 (tgt := 81) dX7_scanWord_74 (by decide) (fun c16 => ?_) (fun c16 => ?_)
      · have hf := zif_t c16 hf
        refine zr_iconst C0 (v := 1) dX7_scanWord_81 (by decide) ?_
        refine zr_sub [] rfl ?_
        exact w_X7_scanWord_b82 C0 hf
      · have hf := zif_f c16 hf
        refine zr_iconst C0 (v := 4) dX7_scanWord_77 (by decide) ?_
        refine zr_goto C0 (tgt := 82) dX7_scanWord_78 (by decide) ?_
        refine zr_sub [] rfl ?_
        exact w_X7_scanWord_b82 C0 hf
    · have hf := zif_f c5 hf
      refine zr_aload_n C0 dX7_scanWord_17 rfl 0 rfl ?_
      obtain ⟨x17, e18, hf⟩ := zbind hf
      refine zr_get C0 fl_X7_53_X7 dX7_scanWord_18 (zgI e18) ?_
      refine zr_aload_n C0 dX7_scanWord_21 rfl 0 rfl ?_
      obtain ⟨x19, e20, hf⟩ := zbind hf
      refine zr_get C0 fl_X7_76_X7 dX7_scanWord_22 (zgI e20) ?_
      refine zr_isub C0 dX7_scanWord_25 ?_
      refine zr_bipush C0 (v := 10) dX7_scanWord_26 (by decide) ?_
      refine zr_icmp_ge C0 (tgt := 41) dX7_scanWord_28 (by decide) (fun c21 => ?_) (fun c21 => ?_)
      · have hf := zif_t c21 hf
        exact w_X7_scanWord_b41 C0 ih hf
      · have hf := zif_f c21 hf
        refine zr_aload_n C0 dX7_scanWord_31 rfl 1 rfl ?_
        refine zr_aload_n C0 dX7_scanWord_32 rfl 0 rfl ?_
        obtain ⟨_, e22, hf⟩ := zbind hf
        obtain ⟨x25, h23, e24, hf⟩ := zbind2 hf
        refine zr_callV_r C0 cv_X7_60_X7 rfl (zcko e22) (m_X7_peek C0.2.2.2.2.2.2.1 e24) (by decide) (by decide) rfl rfl (Nat.le_of_ble_eq_true rfl) dX7_scanWord_33 rfl ?_
        refine zr_i2c C0 dX7_scanWord_36 ?_
        obtain ⟨_, e26, hf⟩ := zbind hf
        obtain ⟨x29, h27, e28, hf⟩ := zbind2 hf
        refine zr_callV_r C0 cv_X7_100_J8 rfl (zcko e26) (m_J8_append_3 C0.2.2.2.2.2.2.1 e28) (by decide) (by decide) rfl rfl (Nat.le_of_ble_eq_true rfl) dX7_scanWord_37 rfl ?_
        refine zr_pop C0 dX7_scanWord_40 rfl ?_
        exact w_X7_scanWord_b41 C0 ih hf
def f_X7_scanWord_b0 (E : zE) (p0 : Nat) (h : zH) : Option (Unit × zH) :=
  bnd2 (nO h 18 4 [.null, .int 0, .int 0, .int 0]) fun q1 h2 =>
  bnd2 (f_J8_init_2 E q1 (10 : Int32) h2) fun x6 h4 =>
  f_X7_scanWord_l10 E E.1 p0 q1 h4
theorem w_X7_scanWord_b0 (C0 : zCx p l e R s m args below meth c D B0 2 "FranchiseLedger$Reader" cX7_scanWord E 9 243 (Option.none : Option Jvm.ClassFile.FieldType) "scanWord") {r : Unit} {h' : zH} {p0 : Nat} {h : zH} (hf : f_X7_scanWord_b0 E p0 h = some (r, h')) : zW p l e R s m args below meth c D B0 2 (zEnd D B0 R below args s (zoV r) h') h 0 [(0, .ref p0)] [] := by
  unfold f_X7_scanWord_b0 at hf
  obtain ⟨q1, h2, e3, hf⟩ := zbind2 hf
  refine zr_newc C0 (C := RJ8) (T := TJ8) (N := 4) rfl in_J8 tyJ8_ok q1361 q251 q139 nw_J8 dX7_scanWord_0 e3 ?_
  refine zr_dup C0 dX7_scanWord_3 rfl ?_
  refine zr_bipush C0 (v := 10) dX7_scanWord_4 (by decide) ?_
  obtain ⟨x6, h4, e5, hf⟩ := zbind2 hf
  refine zr_callI_r C0 cv_X7_97 (m_J8_init_2 C0.2.2.2.2.2.2.1 e5) (by decide) (by decide) rfl rfl (Nat.le_of_ble_eq_true rfl) dX7_scanWord_6 rfl ?_
  refine zr_astore_n (i := 1) (lv' := [(1, .ref q1), (0, .ref p0)]) C0 dX7_scanWord_9 rfl (by decide) (by first | rfl | simp [zst1, zst2, zcat_rf]) ?_
  refine zr_sub [1, 0] rfl ?_
  exact w_X7_scanWord_l10 C0 _ _ _ _ hf
def f_X7_scanWord (E : zE) (p0 : Nat) (h : zH) : Option (Unit × zH) := f_X7_scanWord_b0 E p0 h
theorem m_X7_scanWord {l : Launch} (hst : l.stackTraces = false) {D : zD} {B0 : Nat} {E : zE} {p0 : Nat} {h h' : zH} {r : Unit} (hf : f_X7_scanWord E p0 h = some (r, h')) : zMet l yX7_scanWord (ws_ yX7_scanWord cX7_scanWord 2 (Option.none : Option Jvm.ClassFile.FieldType)) 9 243 D B0 E [.ref p0] h (zoV r) h' := by
  unfold f_X7_scanWord at hf
  refine zMet_of hst (by decide +kernel) rfl rfl (Nat.le_of_ble_eq_true rfl) (fun p e R s m below meth c C0 hno => ?_)
  show zW _ _ _ _ _ _ _ _ _ _ _ _ _ _ _ _ [(0, .ref p0)] []
  exact w_X7_scanWord_b0 C0 hf
def f_X7_scan_b18 (E : zE) (k0 : Nat → zH → Option (Unit × zH)) (p0 : Nat) (h : zH) : Option (Unit × zH) :=
  (gI h p0 6 3).bind fun x1 =>
  (pF h p0 6 3 (.int (x1 + (1 : Int32)))).bind fun h3 =>
  k0 p0 h3
theorem w_X7_scan_b18 (C0 : zCx p l e R s m args below meth c D B0 1 "FranchiseLedger$Reader" cX7_scan E 10 264 (Option.none : Option Jvm.ClassFile.FieldType) "scan") {r : Unit} {h' : zH} {k0 : Nat → zH → Option (Unit × zH)} (hk0 : ∀ (p0 : Nat) (h : zH), k0 p0 h = some (r, h') → zW p l e R s m args below meth c D B0 1 (zEnd D B0 R below args s (zoV r) h') h 0 [(0, .ref p0)] []) {p0 : Nat} {h : zH} (hf : f_X7_scan_b18 E k0 p0 h = some (r, h')) : zW p l e R s m args below meth c D B0 1 (zEnd D B0 R below args s (zoV r) h') h 18 [(0, .ref p0)] [] := by
  unfold f_X7_scan_b18 at hf
  refine zr_aload_n C0 dX7_scan_18 rfl 0 rfl ?_
  refine zr_dup C0 dX7_scan_19 rfl ?_
  obtain ⟨x1, e2, hf⟩ := zbind hf
  refine zr_get C0 fl_X7_53_X7 dX7_scan_20 (zgI e2) ?_
  refine zr_iconst C0 (v := 1) dX7_scan_23 (by decide) ?_
  refine zr_iadd C0 dX7_scan_24 ?_
  obtain ⟨h3, e4, hf⟩ := zbind hf
  refine zr_put C0 pl_X7_53_X7 dX7_scan_25 (fun h => by cases h) rfl rfl e4 ?_
  refine zr_goto C0 (tgt := 0) dX7_scan_28 (by decide) ?_
  exact hk0 _ _ hf
def f_X7_scan_b117 (E : zE) (h : zH) : Option (Unit × zH) :=
  some ((), h)
theorem w_X7_scan_b117 (C0 : zCx p l e R s m args below meth c D B0 1 "FranchiseLedger$Reader" cX7_scan E 10 264 (Option.none : Option Jvm.ClassFile.FieldType) "scan") {r : Unit} {h' : zH} {h : zH} (hf : f_X7_scan_b117 E  h = some (r, h')) : zW p l e R s m args below meth c D B0 1 (zEnd D B0 R below args s (zoV r) h') h 117 [] [] := by
  unfold f_X7_scan_b117 at hf
  refine zretW hf ?_
  exact zr_vret C0 rfl dX7_scan_117 rfl
def f_X7_scan_b104 (E : zE) (p0 : Nat) (s0 : Nat) (s1 : Int32) (h : zH) : Option (Unit × zH) :=
  (pF h s0 6 5 (.int s1)).bind fun h1 =>
  (gI h1 p0 6 3).bind fun x3 =>
  (pF h1 p0 6 3 (.int (x3 + (1 : Int32)))).bind fun h5 =>
  f_X7_scan_b117 E  h5
theorem w_X7_scan_b104 (C0 : zCx p l e R s m args below meth c D B0 1 "FranchiseLedger$Reader" cX7_scan E 10 264 (Option.none : Option Jvm.ClassFile.FieldType) "scan") {r : Unit} {h' : zH} {p0 : Nat} {s0 : Nat} {s1 : Int32} {h : zH} (hf : f_X7_scan_b104 E p0 s0 s1 h = some (r, h')) : zW p l e R s m args below meth c D B0 1 (zEnd D B0 R below args s (zoV r) h') h 104 [(0, .ref p0)] [.int s1, .ref s0] := by
  unfold f_X7_scan_b104 at hf
  obtain ⟨h1, e2, hf⟩ := zbind hf
  refine zr_put C0 pl_X7_79_X7 dX7_scan_104 (fun h => by cases h) rfl rfl e2 ?_
  refine zr_aload_n C0 dX7_scan_107 rfl 0 rfl ?_
  refine zr_dup C0 dX7_scan_108 rfl ?_
  obtain ⟨x3, e4, hf⟩ := zbind hf
  refine zr_get C0 fl_X7_53_X7 dX7_scan_109 (zgI e4) ?_
  refine zr_iconst C0 (v := 1) dX7_scan_112 (by decide) ?_
  refine zr_iadd C0 dX7_scan_113 ?_
  obtain ⟨h5, e6, hf⟩ := zbind hf
  refine zr_put C0 pl_X7_53_X7 dX7_scan_114 (fun h => by cases h) rfl rfl e6 ?_
  refine zr_sub [] rfl ?_
  exact w_X7_scan_b117 C0 hf
def f_X7_scan_l0 (E : zE) : Nat → Nat → zH → Option (Unit × zH)
  | 0, _, _ => none
  | n + 1, p0, h =>
    (cko h p0 6).bind fun _ =>
    bnd2 (f_X7_peek E p0 h) fun x4 h2 =>
    if x4 = (32 : Int32) then (
      f_X7_scan_b18 E (f_X7_scan_l0 E n) p0 h2
    ) else (
      (cko h2 p0 6).bind fun _ =>
      bnd2 (f_X7_peek E p0 h2) fun x9 h7 =>
      if x9 = (10 : Int32) then (
        f_X7_scan_b18 E (f_X7_scan_l0 E n) p0 h7
      ) else (
        (gI h7 p0 6 3).bind fun x11 =>
        (pF h7 p0 6 4 (.int x11)).bind fun h13 =>
        (pF h13 p0 6 7 (.ref (E.2.1 7))).bind fun h15 =>
        (cko h15 p0 6).bind fun _ =>
        bnd2 (f_X7_peek E p0 h15) fun x20 h18 =>
        if x20 = (-1 : Int32) then (
          (pF h18 p0 6 5 (.int (0 : Int32))).bind fun h45 =>
          f_X7_scan_b117 E  h45
        ) else (
          (cko h18 p0 6).bind fun _ =>
          bnd2 (f_X7_isLetter E p0 h18) fun x25 h23 =>
          if x25 = 0 then (
            (cko h23 p0 6).bind fun _ =>
            bnd2 (f_X7_isDigit E p0 h23) fun x30 h28 =>
            if x30 = 0 then (
              (cko h28 p0 6).bind fun _ =>
              bnd2 (f_X7_peek E p0 h28) fun x35 h33 =>
              if x35 = (59 : Int32) then (
                f_X7_scan_b104 E p0 p0 (3 : Int32) h33
              ) else (
                f_X7_scan_b104 E p0 p0 (4 : Int32) h33
              )
            ) else (
              (cko h28 p0 6).bind fun _ =>
              bnd2 (f_X7_scanNumber E p0 h28) fun x40 h38 =>
              f_X7_scan_b117 E  h38
            )
          ) else (
            (cko h23 p0 6).bind fun _ =>
            bnd2 (f_X7_scanWord E p0 h23) fun x44 h42 =>
            f_X7_scan_b117 E  h42
          )
        )
      )
    )
theorem w_X7_scan_l0 (C0 : zCx p l e R s m args below meth c D B0 1 "FranchiseLedger$Reader" cX7_scan E 10 264 (Option.none : Option Jvm.ClassFile.FieldType) "scan") {r : Unit} {h' : zH} : ∀ (n : Nat) (p0 : Nat) (h : zH), f_X7_scan_l0 E n p0 h = some (r, h') → zW p l e R s m args below meth c D B0 1 (zEnd D B0 R below args s (zoV r) h') h 0 [(0, .ref p0)] [] := by
  intro n
  induction n with
  | zero =>
    intro p0 h hf
    unfold f_X7_scan_l0 at hf
    cases hf
  | succ n ih =>
    intro p0 h hf
    unfold f_X7_scan_l0 at hf
    refine zr_aload_n C0 dX7_scan_0 rfl 0 rfl ?_
    obtain ⟨_, e1, hf⟩ := zbind hf
    obtain ⟨x4, h2, e3, hf⟩ := zbind2 hf
    refine zr_callV_r C0 cv_X7_60_X7 rfl (zcko e1) (m_X7_peek C0.2.2.2.2.2.2.1 e3) (by decide) (by decide) rfl rfl (Nat.le_of_ble_eq_true rfl) dX7_scan_1 rfl ?_
    refine zr_bipush C0 (v := 32) dX7_scan_4 (by decide) ?_
    refine zr_icmp_eq C0 (tgt := 18) dX7_scan_6 (by decide) (fun c5 => ?_) (fun c5 => ?_)
    · have hf := zif_t c5 hf
      exact w_X7_scan_b18 C0 ih hf
    · have hf := zif_f c5 hf
      refine zr_aload_n C0 dX7_scan_9 rfl 0 rfl ?_
      obtain ⟨_, e6, hf⟩ := zbind hf
      obtain ⟨x9, h7, e8, hf⟩ := zbind2 hf
      refine zr_callV_r C0 cv_X7_60_X7 rfl (zcko e6) (m_X7_peek C0.2.2.2.2.2.2.1 e8) (by decide) (by decide) rfl rfl (Nat.le_of_ble_eq_true rfl) dX7_scan_10 rfl ?_
      refine zr_bipush C0 (v := 10) dX7_scan_13 (by decide) ?_
      refine zr_icmp_ne C0 (tgt := 31) dX7_scan_15 (by decide) (fun c10 => ?_) (fun c10 => ?_)
      · have hf := zif_f c10 hf
        refine zr_aload_n C0 dX7_scan_31 rfl 0 rfl ?_
        refine zr_aload_n C0 dX7_scan_32 rfl 0 rfl ?_
        obtain ⟨x11, e12, hf⟩ := zbind hf
        refine zr_get C0 fl_X7_53_X7 dX7_scan_33 (zgI e12) ?_
        obtain ⟨h13, e14, hf⟩ := zbind hf
        refine zr_put C0 pl_X7_76_X7 dX7_scan_36 (fun h => by cases h) rfl rfl e14 ?_
        refine zr_aload_n C0 dX7_scan_39 rfl 0 rfl ?_
        refine zr_ldcS C0 (i := 7) rfl dX7_scan_40 ?_
        obtain ⟨h15, e16, hf⟩ := zbind hf
        refine zr_put C0 pl_X7_33_X7 dX7_scan_42 (fun h => by cases h) rfl rfl e16 ?_
        refine zr_aload_n C0 dX7_scan_45 rfl 0 rfl ?_
        obtain ⟨_, e17, hf⟩ := zbind hf
        obtain ⟨x20, h18, e19, hf⟩ := zbind2 hf
        refine zr_callV_r C0 cv_X7_60_X7 rfl (zcko e17) (m_X7_peek C0.2.2.2.2.2.2.1 e19) (by decide) (by decide) rfl rfl (Nat.le_of_ble_eq_true rfl) dX7_scan_46 rfl ?_
        refine zr_iconst C0 (v := -1) dX7_scan_49 (by decide) ?_
        refine zr_icmp_ne C0 (tgt := 61) dX7_scan_50 (by decide) (fun c21 => ?_) (fun c21 => ?_)
        · have hf := zif_f c21 hf
          refine zr_aload_n C0 dX7_scan_61 rfl 0 rfl ?_
          obtain ⟨_, e22, hf⟩ := zbind hf
          obtain ⟨x25, h23, e24, hf⟩ := zbind2 hf
          refine zr_callV_r C0 cv_X7_82_X7 rfl (zcko e22) (m_X7_isLetter C0.2.2.2.2.2.2.1 e24) (by decide) (by decide) rfl rfl (Nat.le_of_ble_eq_true rfl) dX7_scan_62 rfl ?_
          refine zr_if_eq C0 (tgt := 75) dX7_scan_65 (by decide) (fun c26 => ?_) (fun c26 => ?_)
          · have hf := zif_t c26 hf
            refine zr_aload_n C0 dX7_scan_75 rfl 0 rfl ?_
            obtain ⟨_, e27, hf⟩ := zbind hf
            obtain ⟨x30, h28, e29, hf⟩ := zbind2 hf
            refine zr_callV_r C0 cv_X7_89_X7 rfl (zcko e27) (m_X7_isDigit C0.2.2.2.2.2.2.1 e29) (by decide) (by decide) rfl rfl (Nat.le_of_ble_eq_true rfl) dX7_scan_76 rfl ?_
            refine zr_if_eq C0 (tgt := 89) dX7_scan_79 (by decide) (fun c31 => ?_) (fun c31 => ?_)
            · have hf := zif_t c31 hf
              refine zr_aload_n C0 dX7_scan_89 rfl 0 rfl ?_
              refine zr_aload_n C0 dX7_scan_90 rfl 0 rfl ?_
              obtain ⟨_, e32, hf⟩ := zbind hf
              obtain ⟨x35, h33, e34, hf⟩ := zbind2 hf
              refine zr_callV_r C0 cv_X7_60_X7 rfl (zcko e32) (m_X7_peek C0.2.2.2.2.2.2.1 e34) (by decide) (by decide) rfl rfl (Nat.le_of_ble_eq_true rfl) dX7_scan_91 rfl ?_
              refine zr_bipush C0 (v := 59) dX7_scan_94 (by decide) ?_
              refine zr_icmp_ne C0 (tgt := 103) dX7_scan_96 (by decide) (fun c36 => ?_) (fun c36 => ?_)
              · have hf := zif_f c36 hf
                refine zr_iconst C0 (v := 4) dX7_scan_103 (by decide) ?_
                exact w_X7_scan_b104 C0 hf
              · have hf := zif_t c36 hf
                refine zr_iconst C0 (v := 3) dX7_scan_99 (by decide) ?_
                refine zr_goto C0 (tgt := 104) dX7_scan_100 (by decide) ?_
                exact w_X7_scan_b104 C0 hf
            · have hf := zif_f c31 hf
              refine zr_aload_n C0 dX7_scan_82 rfl 0 rfl ?_
              obtain ⟨_, e37, hf⟩ := zbind hf
              obtain ⟨x40, h38, e39, hf⟩ := zbind2 hf
              refine zr_callV_r C0 cv_X7_92_X7 rfl (zcko e37) (m_X7_scanNumber C0.2.2.2.2.2.2.1 e39) (by decide) (by decide) rfl rfl (Nat.le_of_ble_eq_true rfl) dX7_scan_83 rfl ?_
              refine zr_goto C0 (tgt := 117) dX7_scan_86 (by decide) ?_
              refine zr_sub [] rfl ?_
              exact w_X7_scan_b117 C0 hf
          · have hf := zif_f c26 hf
            refine zr_aload_n C0 dX7_scan_68 rfl 0 rfl ?_
            obtain ⟨_, e41, hf⟩ := zbind hf
            obtain ⟨x44, h42, e43, hf⟩ := zbind2 hf
            refine zr_callV_r C0 cv_X7_86_X7 rfl (zcko e41) (m_X7_scanWord C0.2.2.2.2.2.2.1 e43) (by decide) (by decide) rfl rfl (Nat.le_of_ble_eq_true rfl) dX7_scan_69 rfl ?_
            refine zr_goto C0 (tgt := 117) dX7_scan_72 (by decide) ?_
            refine zr_sub [] rfl ?_
            exact w_X7_scan_b117 C0 hf
        · have hf := zif_t c21 hf
          refine zr_aload_n C0 dX7_scan_53 rfl 0 rfl ?_
          refine zr_iconst C0 (v := 0) dX7_scan_54 (by decide) ?_
          obtain ⟨h45, e46, hf⟩ := zbind hf
          refine zr_put C0 pl_X7_79_X7 dX7_scan_55 (fun h => by cases h) rfl rfl e46 ?_
          refine zr_goto C0 (tgt := 117) dX7_scan_58 (by decide) ?_
          refine zr_sub [] rfl ?_
          exact w_X7_scan_b117 C0 hf
      · have hf := zif_t c10 hf
        exact w_X7_scan_b18 C0 ih hf
def f_X7_scan (E : zE) (p0 : Nat) (h : zH) : Option (Unit × zH) := f_X7_scan_l0 E E.1 p0 h
theorem m_X7_scan {l : Launch} (hst : l.stackTraces = false) {D : zD} {B0 : Nat} {E : zE} {p0 : Nat} {h h' : zH} {r : Unit} (hf : f_X7_scan E p0 h = some (r, h')) : zMet l yX7_scan (ws_ yX7_scan cX7_scan 1 (Option.none : Option Jvm.ClassFile.FieldType)) 10 264 D B0 E [.ref p0] h (zoV r) h' := by
  unfold f_X7_scan at hf
  refine zMet_of hst (by decide +kernel) rfl rfl (Nat.le_of_ble_eq_true rfl) (fun p e R s m below meth c C0 hno => ?_)
  show zW _ _ _ _ _ _ _ _ _ _ _ _ _ _ _ _ [(0, .ref p0)] []
  exact w_X7_scan_l0 C0 _ _ _ hf
end
