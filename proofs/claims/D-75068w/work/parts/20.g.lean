/-! walks by program: by the generator -/
set_option maxRecDepth 100000
section
variable {p : Program} {l : Launch} {e : Env} {R : Room} {s : State} {m : MethodId} {args : Array Value} {below : List Frame} {meth : Method} {c : Code} {D : zD} {B0 : Nat} {E : zE}
theorem fl_X6_9_X6 : zFL "FranchiseLedgerModel" 9 1 0 := ⟨RX6, TX6, 22, "FranchiseLedgerModel", rfl, in_X6, by decide, Or.inl q2541, Or.inl rfl⟩
theorem pl_X6_9_X6 : zPL "FranchiseLedgerModel" 9 1 0 (.array .long) true := ⟨RX6, TX6, 22, "FranchiseLedgerModel", tyX6, rfl, in_X6, by decide, Or.inl q2541, Or.inl rfl, tyX6_ok, nmX6, rfl, (fun _ => rfl), rfl⟩
theorem fl_X6_13_X6 : zFL "FranchiseLedgerModel" 13 1 1 := ⟨RX6, TX6, 22, "FranchiseLedgerModel", rfl, in_X6, by decide, Or.inl q2542, Or.inl rfl⟩
theorem pl_X6_13_X6 : zPL "FranchiseLedgerModel" 13 1 1 (.array .boolean) true := ⟨RX6, TX6, 22, "FranchiseLedgerModel", tyX6, rfl, in_X6, by decide, Or.inl q2542, Or.inl rfl, tyX6_ok, nmX6, rfl, (fun _ => rfl), rfl⟩
theorem fl_X6_17_X6 : zFL "FranchiseLedgerModel" 17 1 3 := ⟨RX6, TX6, 22, "FranchiseLedgerModel", rfl, in_X6, by decide, Or.inl q2544, Or.inl rfl⟩
theorem pl_X6_17_X6 : zPL "FranchiseLedgerModel" 17 1 3 (.array .boolean) true := ⟨RX6, TX6, 22, "FranchiseLedgerModel", tyX6, rfl, in_X6, by decide, Or.inl q2544, Or.inl rfl, tyX6_ok, nmX6, rfl, (fun _ => rfl), rfl⟩
theorem fl_X6_20_X6 : zFL "FranchiseLedgerModel" 20 1 4 := ⟨RX6, TX6, 22, "FranchiseLedgerModel", rfl, in_X6, by decide, Or.inl q2545, Or.inl rfl⟩
theorem pl_X6_20_X6 : zPL "FranchiseLedgerModel" 20 1 4 (.array .boolean) true := ⟨RX6, TX6, 22, "FranchiseLedgerModel", tyX6, rfl, in_X6, by decide, Or.inl q2545, Or.inl rfl, tyX6_ok, nmX6, rfl, (fun _ => rfl), rfl⟩
theorem fl_X6_23_X6 : zFL "FranchiseLedgerModel" 23 1 5 := ⟨RX6, TX6, 22, "FranchiseLedgerModel", rfl, in_X6, by decide, Or.inl q2546, Or.inl rfl⟩
theorem pl_X6_23_X6 : zPL "FranchiseLedgerModel" 23 1 5 (.array .long) true := ⟨RX6, TX6, 22, "FranchiseLedgerModel", tyX6, rfl, in_X6, by decide, Or.inl q2546, Or.inl rfl, tyX6_ok, nmX6, rfl, (fun _ => rfl), rfl⟩
theorem fl_X6_26_X6 : zFL "FranchiseLedgerModel" 26 1 6 := ⟨RX6, TX6, 22, "FranchiseLedgerModel", rfl, in_X6, by decide, Or.inl q2547, Or.inl rfl⟩
theorem pl_X6_26_X6 : zPL "FranchiseLedgerModel" 26 1 6 (.array .byte) true := ⟨RX6, TX6, 22, "FranchiseLedgerModel", tyX6, rfl, in_X6, by decide, Or.inl q2547, Or.inl rfl, tyX6_ok, nmX6, rfl, (fun _ => rfl), rfl⟩
theorem fl_X6_30_X6 : zFL "FranchiseLedgerModel" 30 1 8 := ⟨RX6, TX6, 22, "FranchiseLedgerModel", rfl, in_X6, by decide, Or.inl q2549, Or.inl rfl⟩
theorem pl_X6_30_X6 : zPL "FranchiseLedgerModel" 30 1 8 (.array .byte) true := ⟨RX6, TX6, 22, "FranchiseLedgerModel", tyX6, rfl, in_X6, by decide, Or.inl q2549, Or.inl rfl, tyX6_ok, nmX6, rfl, (fun _ => rfl), rfl⟩
theorem fl_X6_33_X6 : zFL "FranchiseLedgerModel" 33 1 12 := ⟨RX6, TX6, 22, "FranchiseLedgerModel", rfl, in_X6, by decide, Or.inl q2553, Or.inl rfl⟩
theorem pl_X6_33_X6 : zPL "FranchiseLedgerModel" 33 1 12 .int false := ⟨RX6, TX6, 22, "FranchiseLedgerModel", tyX6, rfl, in_X6, by decide, Or.inl q2553, Or.inl rfl, tyX6_ok, nmX6, rfl, (fun h => by cases h), rfl⟩
theorem fl_X6_37_X6 : zFL "FranchiseLedgerModel" 37 1 17 := ⟨RX6, TX6, 22, "FranchiseLedgerModel", rfl, in_X6, by decide, Or.inl q2558, Or.inl rfl⟩
theorem pl_X6_37_X6 : zPL "FranchiseLedgerModel" 37 1 17 (.array .int) true := ⟨RX6, TX6, 22, "FranchiseLedgerModel", tyX6, rfl, in_X6, by decide, Or.inl q2558, Or.inl rfl, tyX6_ok, nmX6, rfl, (fun _ => rfl), rfl⟩
theorem fl_X6_41_X6 : zFL "FranchiseLedgerModel" 41 1 18 := ⟨RX6, TX6, 22, "FranchiseLedgerModel", rfl, in_X6, by decide, Or.inl q2559, Or.inl rfl⟩
theorem pl_X6_41_X6 : zPL "FranchiseLedgerModel" 41 1 18 (.array .int) true := ⟨RX6, TX6, 22, "FranchiseLedgerModel", tyX6, rfl, in_X6, by decide, Or.inl q2559, Or.inl rfl, tyX6_ok, nmX6, rfl, (fun _ => rfl), rfl⟩
theorem cv_X6_44_X6 : zCV "FranchiseLedgerModel" 44 "FranchiseLedgerModel" yX6_clearBlock cX6_clearBlock 3 (Option.none : Option Jvm.ClassFile.FieldType) 1 := ⟨q2536, q2538, qs54, q156, q2539, rfl, ⟨by decide +kernel, by decide +kernel, by decide +kernel⟩⟩
theorem fl_X6_50_X6 : zFL "FranchiseLedgerModel" 50 1 2 := ⟨RX6, TX6, 22, "FranchiseLedgerModel", rfl, in_X6, by decide, Or.inl q2543, Or.inl rfl⟩
theorem pl_X6_50_X6 : zPL "FranchiseLedgerModel" 50 1 2 .int false := ⟨RX6, TX6, 22, "FranchiseLedgerModel", tyX6, rfl, in_X6, by decide, Or.inl q2543, Or.inl rfl, tyX6_ok, nmX6, rfl, (fun h => by cases h), rfl⟩
theorem cv_X6_53 : zCS "FranchiseLedgerModel" 53 yX6_inRange cX6_inRange 6 (Option.some Jvm.ClassFile.FieldType.boolean) 3 := ⟨q2616, q2617, q156, q2618, ⟨by decide +kernel, by decide +kernel, by decide +kernel⟩⟩
theorem cv_X6_57_X6 : zCV "FranchiseLedgerModel" 57 "FranchiseLedgerModel" yX6_copyBlock cX6_copyBlock 4 (Option.none : Option Jvm.ClassFile.FieldType) 2 := ⟨q2619, q2621, qs55, q156, q2622, rfl, ⟨by decide +kernel, by decide +kernel, by decide +kernel⟩⟩
theorem fl_X6_75_X6 : zFL "FranchiseLedgerModel" 75 1 19 := ⟨RX6, TX6, 22, "FranchiseLedgerModel", rfl, in_X6, by decide, Or.inl q2560, Or.inl rfl⟩
theorem fl_X6_78_X6 : zFL "FranchiseLedgerModel" 78 1 20 := ⟨RX6, TX6, 22, "FranchiseLedgerModel", rfl, in_X6, by decide, Or.inl q2561, Or.inl rfl⟩
theorem cv_X6_67 : zCS "FranchiseLedgerModel" 67 yX6_isCell cX6_isCell 2 (Option.some Jvm.ClassFile.FieldType.boolean) 2 := ⟨q2639, q2640, q156, q2641, ⟨by decide +kernel, by decide +kernel, by decide +kernel⟩⟩
theorem cv_X6_81_X6 : zCV "FranchiseLedgerModel" 81 "FranchiseLedgerModel" yX6_throwsIf cX6_throwsIf 3 (Option.some Jvm.ClassFile.FieldType.boolean) 2 := ⟨q2643, q2645, qs56, q156, q2646, rfl, ⟨by decide +kernel, by decide +kernel, by decide +kernel⟩⟩
theorem cv_X6_71_X6 : zCV "FranchiseLedgerModel" 71 "FranchiseLedgerModel" yX6_ownerOf cX6_ownerOf 3 (Option.some Jvm.ClassFile.FieldType.int) 2 := ⟨q2647, q2649, qs57, q156, q2650, rfl, ⟨by decide +kernel, by decide +kernel, by decide +kernel⟩⟩
theorem cv_X6_85_X6 : zCV "FranchiseLedgerModel" 85 "FranchiseLedgerModel" yX6_isFranchisee cX6_isFranchisee 2 (Option.some Jvm.ClassFile.FieldType.boolean) 1 := ⟨q2655, q2657, qs58, q156, q2658, rfl, ⟨by decide +kernel, by decide +kernel, by decide +kernel⟩⟩
theorem cv_X6_89_X6 : zCV "FranchiseLedgerModel" 89 "FranchiseLedgerModel" yX6_areaOf cX6_areaOf 4 (Option.some Jvm.ClassFile.FieldType.int) 1 := ⟨q2659, q2661, qs59, q156, q2662, rfl, ⟨by decide +kernel, by decide +kernel, by decide +kernel⟩⟩
theorem cv_X6_97_X6 : zCV "FranchiseLedgerModel" 97 "FranchiseLedgerModel" yX6_neighboursOf cX6_neighboursOf 4 (Option.some Jvm.ClassFile.FieldType.int) 3 := ⟨q2667, q2669, qs60, q156, q2670, rfl, ⟨by decide +kernel, by decide +kernel, by decide +kernel⟩⟩
theorem cv_X6_93_X6 : zCV "FranchiseLedgerModel" 93 "FranchiseLedgerModel" yX6_owns cX6_owns 4 (Option.some Jvm.ClassFile.FieldType.boolean) 3 := ⟨q2671, q2673, qs61, q156, q2674, rfl, ⟨by decide +kernel, by decide +kernel, by decide +kernel⟩⟩
theorem cv_X6_104_X6 : zCV "FranchiseLedgerModel" 104 "FranchiseLedgerModel" yX6_connected cX6_connected 8 (Option.some Jvm.ClassFile.FieldType.boolean) 1 := ⟨q2683, q2685, qs62, q156, q2686, rfl, ⟨by decide +kernel, by decide +kernel, by decide +kernel⟩⟩
theorem cv_X6_101_X6 : zCV "FranchiseLedgerModel" 101 "FranchiseLedgerModel" yX6_isReached cX6_isReached 3 (Option.some Jvm.ClassFile.FieldType.boolean) 2 := ⟨q2687, q2689, qs63, q156, q2690, rfl, ⟨by decide +kernel, by decide +kernel, by decide +kernel⟩⟩
theorem cv_X6_110 : zCS "FranchiseLedgerModel" 110 yX6_apart cX6_apart 3 (Option.some Jvm.ClassFile.FieldType.int) 3 := ⟨q2695, q2696, q156, q2697, ⟨by decide +kernel, by decide +kernel, by decide +kernel⟩⟩
theorem cv_X6_107 : zCS "FranchiseLedgerModel" 107 yX6_size cX6_size 1 (Option.some Jvm.ClassFile.FieldType.int) 1 := ⟨q2698, q2699, q156, q2700, ⟨by decide +kernel, by decide +kernel, by decide +kernel⟩⟩
theorem cv_X6_124 : zCS "FranchiseLedgerModel" 124 yX6_isArea cX6_isArea 4 (Option.some Jvm.ClassFile.FieldType.boolean) 4 := ⟨q2705, q2706, q156, q2707, ⟨by decide +kernel, by decide +kernel, by decide +kernel⟩⟩
theorem cv_X6_128_X6 : zCV "FranchiseLedgerModel" 128 "FranchiseLedgerModel" yX6_isActive cX6_isActive 2 (Option.some Jvm.ClassFile.FieldType.boolean) 1 := ⟨q2709, q2711, qs64, q156, q2712, rfl, ⟨by decide +kernel, by decide +kernel, by decide +kernel⟩⟩
theorem cv_X6_63_X6 : zCV "FranchiseLedgerModel" 63 "FranchiseLedgerModel" yX6_of cX6_of 3 (Option.some Jvm.ClassFile.FieldType.long) 2 := ⟨q2713, q2715, qs65, q156, q2716, rfl, ⟨by decide +kernel, by decide +kernel, by decide +kernel⟩⟩
theorem cv_X6_138_X6 : zCV "FranchiseLedgerModel" 138 "FranchiseLedgerModel" yX6_give cX6_give 3 (Option.none : Option Jvm.ClassFile.FieldType) 1 := ⟨q2736, q2738, qs70, q156, q2739, rfl, ⟨by decide +kernel, by decide +kernel, by decide +kernel⟩⟩
theorem cv_X6_131 : zCS "FranchiseLedgerModel" 131 yX6_isWithin cX6_isWithin 5 (Option.some Jvm.ClassFile.FieldType.boolean) 5 := ⟨q2717, q2718, q156, q2719, ⟨by decide +kernel, by decide +kernel, by decide +kernel⟩⟩
theorem cv_X6_135_X6 : zCV "FranchiseLedgerModel" 135 "FranchiseLedgerModel" yX6_hasOutlet cX6_hasOutlet 3 (Option.some Jvm.ClassFile.FieldType.boolean) 1 := ⟨q2720, q2722, qs66, q156, q2723, rfl, ⟨by decide +kernel, by decide +kernel, by decide +kernel⟩⟩
theorem cv_X6_118_X6 : zCV "FranchiseLedgerModel" 118 "FranchiseLedgerModel" yX6_isOpen cX6_isOpen 2 (Option.some Jvm.ClassFile.FieldType.boolean) 1 := ⟨q2724, q2726, qs67, q156, q2727, rfl, ⟨by decide +kernel, by decide +kernel, by decide +kernel⟩⟩
theorem cv_X6_113_X6 : zCV "FranchiseLedgerModel" 113 "FranchiseLedgerModel" yX6_ofOutlet cX6_ofOutlet 3 (Option.some Jvm.ClassFile.FieldType.long) 2 := ⟨q2728, q2730, qs68, q156, q2731, rfl, ⟨by decide +kernel, by decide +kernel, by decide +kernel⟩⟩
theorem cv_X6_121_X6 : zCV "FranchiseLedgerModel" 121 "FranchiseLedgerModel" yX6_cellOf cX6_cellOf 2 (Option.some Jvm.ClassFile.FieldType.int) 1 := ⟨q2732, q2734, qs69, q156, q2735, rfl, ⟨by decide +kernel, by decide +kernel, by decide +kernel⟩⟩
theorem cv_X6_141_X6 : zCV "FranchiseLedgerModel" 141 "FranchiseLedgerModel" yX6_isOutlet cX6_isOutlet 2 (Option.some Jvm.ClassFile.FieldType.boolean) 1 := ⟨q2744, q2746, qs71, q156, q2747, rfl, ⟨by decide +kernel, by decide +kernel, by decide +kernel⟩⟩
theorem cv_X6_148_X6 : zCV "FranchiseLedgerModel" 148 "FranchiseLedgerModel" yX6_putOutlet cX6_putOutlet 6 (Option.none : Option Jvm.ClassFile.FieldType) 4 := ⟨q2758, q2760, qs72, q156, q2761, rfl, ⟨by decide +kernel, by decide +kernel, by decide +kernel⟩⟩
theorem cv_X6_152_X6 : zCV "FranchiseLedgerModel" 152 "FranchiseLedgerModel" yX6_nearestOutlet cX6_nearestOutlet 6 (Option.some Jvm.ClassFile.FieldType.int) 2 := ⟨q2766, q2768, qs73, q156, q2769, rfl, ⟨by decide +kernel, by decide +kernel, by decide +kernel⟩⟩
theorem cv_X6_157_X6 : zCV "FranchiseLedgerModel" 157 "FranchiseLedgerModel" yX6_cellsBefore cX6_cellsBefore 5 (Option.some Jvm.ClassFile.FieldType.int) 2 := ⟨q2783, q2785, qs74, q156, q2786, rfl, ⟨by decide +kernel, by decide +kernel, by decide +kernel⟩⟩
theorem cv_X6_171_X6 : zCV "FranchiseLedgerModel" 171 "FranchiseLedgerModel" yX6_isPlan cX6_isPlan 2 (Option.some Jvm.ClassFile.FieldType.boolean) 1 := ⟨q2791, q2793, qs75, q156, q2794, rfl, ⟨by decide +kernel, by decide +kernel, by decide +kernel⟩⟩
theorem cv_X6_176_X6 : zCV "FranchiseLedgerModel" 176 "FranchiseLedgerModel" yX6_royaltyOf cX6_royaltyOf 14 (Option.some Jvm.ClassFile.FieldType.long) 2 := ⟨q2796, q2798, qs76, q156, q2799, rfl, ⟨by decide +kernel, by decide +kernel, by decide +kernel⟩⟩
theorem cv_X6_168_X6 : zCV "FranchiseLedgerModel" 168 "FranchiseLedgerModel" yX6_ofPlan cX6_ofPlan 3 (Option.some Jvm.ClassFile.FieldType.long) 2 := ⟨q2800, q2802, qs77, q156, q2803, rfl, ⟨by decide +kernel, by decide +kernel, by decide +kernel⟩⟩
theorem cv_X6_164 : zCS "FranchiseLedgerModel" 164 yX6_half cX6_half 2 (Option.some Jvm.ClassFile.FieldType.long) 1 := ⟨q2804, q2805, q156, q2806, ⟨by decide +kernel, by decide +kernel, by decide +kernel⟩⟩
theorem cv_X6_180_X6 : zCV "FranchiseLedgerModel" 180 "FranchiseLedgerModel" yX6_planNow cX6_planNow 2 (Option.some Jvm.ClassFile.FieldType.int) 1 := ⟨q2813, q2815, qs78, q156, q2816, rfl, ⟨by decide +kernel, by decide +kernel, by decide +kernel⟩⟩
theorem cv_X6_183_X6 : zCV "FranchiseLedgerModel" 183 "FranchiseLedgerModel" yX6_set cX6_set 5 (Option.none : Option Jvm.ClassFile.FieldType) 3 := ⟨q2821, q2823, qs79, q156, q2824, rfl, ⟨by decide +kernel, by decide +kernel, by decide +kernel⟩⟩
theorem cv_X6_191_X6 : zCV "FranchiseLedgerModel" 191 "FranchiseLedgerModel" yX6_salesNow cX6_salesNow 6 (Option.some Jvm.ClassFile.FieldType.long) 2 := ⟨q2829, q2831, qs80, q156, q2832, rfl, ⟨by decide +kernel, by decide +kernel, by decide +kernel⟩⟩
theorem cv_X6_194_X6 : zCV "FranchiseLedgerModel" 194 "FranchiseLedgerModel" yX6_feesBy cX6_feesBy 4 (Option.some Jvm.ClassFile.FieldType.long) 2 := ⟨q2833, q2835, qs81, q156, q2836, rfl, ⟨by decide +kernel, by decide +kernel, by decide +kernel⟩⟩
theorem cv_X6_187 : zCS "FranchiseLedgerModel" 187 yX6_rated cX6_rated 4 (Option.some Jvm.ClassFile.FieldType.long) 2 := ⟨q2837, q2838, q156, q2839, ⟨by decide +kernel, by decide +kernel, by decide +kernel⟩⟩
theorem cv_X6_201_X6 : zCV "FranchiseLedgerModel" 201 "FranchiseLedgerModel" yX6_isOver cX6_isOver 1 (Option.some Jvm.ClassFile.FieldType.boolean) 0 := ⟨q2845, q2847, qs82, q156, q2848, rfl, ⟨by decide +kernel, by decide +kernel, by decide +kernel⟩⟩
theorem cv_X6_207_X6 : zCV "FranchiseLedgerModel" 207 "FranchiseLedgerModel" yX6_isClosed cX6_isClosed 2 (Option.some Jvm.ClassFile.FieldType.boolean) 1 := ⟨q2863, q2865, qs83, q156, q2866, rfl, ⟨by decide +kernel, by decide +kernel, by decide +kernel⟩⟩
theorem cv_X6_210_X6 : zCV "FranchiseLedgerModel" 210 "FranchiseLedgerModel" yX6_recorded cX6_recorded 3 (Option.some Jvm.ClassFile.FieldType.long) 2 := ⟨q2867, q2869, qs84, q156, q2870, rfl, ⟨by decide +kernel, by decide +kernel, by decide +kernel⟩⟩
theorem cv_X6_213_X6 : zCV "FranchiseLedgerModel" 213 "FranchiseLedgerModel" yX6_recordedInAll cX6_recordedInAll 5 (Option.some Jvm.ClassFile.FieldType.long) 1 := ⟨q2875, q2877, qs85, q156, q2878, rfl, ⟨by decide +kernel, by decide +kernel, by decide +kernel⟩⟩
theorem cv_X6_217_X6 : zCV "FranchiseLedgerModel" 217 "FranchiseLedgerModel" yX6_credit cX6_credit 5 (Option.some Jvm.ClassFile.FieldType.long) 2 := ⟨q2883, q2885, qs86, q156, q2886, rfl, ⟨by decide +kernel, by decide +kernel, by decide +kernel⟩⟩
theorem cv_X6_227_X6 : zCV "FranchiseLedgerModel" 227 "FranchiseLedgerModel" yX6_calculate cX6_calculate 5 (Option.none : Option Jvm.ClassFile.FieldType) 2 := ⟨q2891, q2893, qs87, q156, q2894, rfl, ⟨by decide +kernel, by decide +kernel, by decide +kernel⟩⟩
theorem cv_X6_234_X6 : zCV "FranchiseLedgerModel" 234 "FranchiseLedgerModel" yX6_isDelayOver cX6_isDelayOver 2 (Option.some Jvm.ClassFile.FieldType.boolean) 1 := ⟨q2904, q2906, qs90, q156, q2907, rfl, ⟨by decide +kernel, by decide +kernel, by decide +kernel⟩⟩
theorem cv_X6_237_X6 : zCV "FranchiseLedgerModel" 237 "FranchiseLedgerModel" yX6_doTransfer cX6_doTransfer 2 (Option.none : Option Jvm.ClassFile.FieldType) 1 := ⟨q2908, q2910, qs91, q156, q2911, rfl, ⟨by decide +kernel, by decide +kernel, by decide +kernel⟩⟩
theorem cv_X6_224_X6 : zCV "FranchiseLedgerModel" 224 "FranchiseLedgerModel" yX6_add cX6_add 5 (Option.none : Option Jvm.ClassFile.FieldType) 3 := ⟨q2899, q2901, qs89, q156, q2902, rfl, ⟨by decide +kernel, by decide +kernel, by decide +kernel⟩⟩
theorem cv_X6_231_X6 : zCV "FranchiseLedgerModel" 231 "FranchiseLedgerModel" yX6_invoiceRow cX6_invoiceRow 3 (Option.some Jvm.ClassFile.FieldType.int) 2 := ⟨q2895, q2897, qs88, q156, q2898, rfl, ⟨by decide +kernel, by decide +kernel, by decide +kernel⟩⟩
theorem cv_X6_246_X6 : zCV "FranchiseLedgerModel" 246 "FranchiseLedgerModel" yX6_isOpenTransfer cX6_isOpenTransfer 2 (Option.some Jvm.ClassFile.FieldType.boolean) 1 := ⟨q2948, q2950, qs92, q156, q2951, rfl, ⟨by decide +kernel, by decide +kernel, by decide +kernel⟩⟩
theorem cv_X6_253_X6 : zCV "FranchiseLedgerModel" 253 "FranchiseLedgerModel" yX6_fund cX6_fund 1 (Option.some Jvm.ClassFile.FieldType.long) 0 := ⟨q2960, q2962, qs93, q156, q2963, rfl, ⟨by decide +kernel, by decide +kernel, by decide +kernel⟩⟩
theorem cv_X6_249_X6 : zCV "FranchiseLedgerModel" 249 "FranchiseLedgerModel" yX6_allContributions cX6_allContributions 4 (Option.some Jvm.ClassFile.FieldType.long) 0 := ⟨q2964, q2966, qs94, q156, q2967, rfl, ⟨by decide +kernel, by decide +kernel, by decide +kernel⟩⟩
theorem cv_X6_256_X6 : zCV "FranchiseLedgerModel" 256 "FranchiseLedgerModel" yX6_allowanceOf cX6_allowanceOf 2 (Option.some Jvm.ClassFile.FieldType.long) 1 := ⟨q2984, q2986, qs95, q156, q2987, rfl, ⟨by decide +kernel, by decide +kernel, by decide +kernel⟩⟩
theorem cv_X6_259_X6 : zCV "FranchiseLedgerModel" 259 "FranchiseLedgerModel" yX6_product cX6_product 2 (Option.some Jvm.ClassFile.FieldType.long) 1 := ⟨q2996, q2998, qs96, q156, q2999, rfl, ⟨by decide +kernel, by decide +kernel, by decide +kernel⟩⟩
theorem fl_X6_266_X6 : zFL "FranchiseLedgerModel" 266 1 7 := ⟨RX6, TX6, 22, "FranchiseLedgerModel", rfl, in_X6, by decide, Or.inl q2548, Or.inl rfl⟩
theorem pl_X6_266_X6 : zPL "FranchiseLedgerModel" 266 1 7 .int false := ⟨RX6, TX6, 22, "FranchiseLedgerModel", tyX6, rfl, in_X6, by decide, Or.inl q2548, Or.inl rfl, tyX6_ok, nmX6, rfl, (fun h => by cases h), rfl⟩
theorem cv_X6_271_X6 : zCV "FranchiseLedgerModel" 271 "FranchiseLedgerModel" yX6_append cX6_append 2 (Option.none : Option Jvm.ClassFile.FieldType) 1 := ⟨q3038, q3040, qs97, q156, q3041, rfl, ⟨by decide +kernel, by decide +kernel, by decide +kernel⟩⟩
theorem cv_X6_286 : zCS "FranchiseLedgerModel" 286 yX6_partName cX6_partName 1 (Option.some Jvm.ClassFile.FieldType.long) 1 := ⟨q3042, q3043, q156, q3044, ⟨by decide +kernel, by decide +kernel, by decide +kernel⟩⟩
theorem cv_X6_278 : zCS "FranchiseLedgerModel" 278 yX6_pack cX6_pack 7 (Option.some Jvm.ClassFile.FieldType.long) 5 := ⟨q3045, q3046, q156, q3047, ⟨by decide +kernel, by decide +kernel, by decide +kernel⟩⟩
theorem cv_X6_289_X6 : zCV "FranchiseLedgerModel" 289 "FranchiseLedgerModel" yX6_appendWord cX6_appendWord 4 (Option.none : Option Jvm.ClassFile.FieldType) 1 := ⟨q3052, q3054, qs98, q156, q3055, rfl, ⟨by decide +kernel, by decide +kernel, by decide +kernel⟩⟩
theorem cv_X6_293_X6 : zCV "FranchiseLedgerModel" 293 "FranchiseLedgerModel" yX6_appendAmount cX6_appendAmount 7 (Option.none : Option Jvm.ClassFile.FieldType) 1 := ⟨q3057, q3059, qs99, q156, q3060, rfl, ⟨by decide +kernel, by decide +kernel, by decide +kernel⟩⟩
theorem fl_X6_296_X6 : zFL "FranchiseLedgerModel" 296 1 9 := ⟨RX6, TX6, 22, "FranchiseLedgerModel", rfl, in_X6, by decide, Or.inl q2550, Or.inl rfl⟩
theorem cv_X6_299_X6 : zCV "FranchiseLedgerModel" 299 "FranchiseLedgerModel" yX6_appendBytes cX6_appendBytes 3 (Option.none : Option Jvm.ClassFile.FieldType) 1 := ⟨q3071, q3073, qs100, q156, q3074, rfl, ⟨by decide +kernel, by decide +kernel, by decide +kernel⟩⟩
theorem pl_X6_296_X6 : zPL "FranchiseLedgerModel" 296 1 9 .int false := ⟨RX6, TX6, 22, "FranchiseLedgerModel", tyX6, rfl, in_X6, by decide, Or.inl q2550, Or.inl rfl, tyX6_ok, nmX6, rfl, (fun h => by cases h), rfl⟩
theorem fl_X6_302_X6 : zFL "FranchiseLedgerModel" 302 1 11 := ⟨RX6, TX6, 22, "FranchiseLedgerModel", rfl, in_X6, by decide, Or.inl q2552, Or.inl rfl⟩
theorem cv_X6_399_X6 : zCV "FranchiseLedgerModel" 399 "FranchiseLedgerModel" yX6_beginText cX6_beginText 1 (Option.none : Option Jvm.ClassFile.FieldType) 0 := ⟨q3091, q3093, qs101, q156, q3094, rfl, ⟨by decide +kernel, by decide +kernel, by decide +kernel⟩⟩
theorem pl_X6_302_X6 : zPL "FranchiseLedgerModel" 302 1 11 .int false := ⟨RX6, TX6, 22, "FranchiseLedgerModel", tyX6, rfl, in_X6, by decide, Or.inl q2552, Or.inl rfl, tyX6_ok, nmX6, rfl, (fun h => by cases h), rfl⟩
theorem fl_X6_313_X6 : zFL "FranchiseLedgerModel" 313 1 10 := ⟨RX6, TX6, 22, "FranchiseLedgerModel", rfl, in_X6, by decide, Or.inl q2551, Or.inl rfl⟩
theorem pl_X6_313_X6 : zPL "FranchiseLedgerModel" 313 1 10 .int false := ⟨RX6, TX6, 22, "FranchiseLedgerModel", tyX6, rfl, in_X6, by decide, Or.inl q2551, Or.inl rfl, tyX6_ok, nmX6, rfl, (fun h => by cases h), rfl⟩
theorem cv_X6_345_X6 : zCV "FranchiseLedgerModel" 345 "FranchiseLedgerModel" yX6_advance cX6_advance 2 (Option.none : Option Jvm.ClassFile.FieldType) 0 := ⟨q3095, q3097, qs102, q156, q3098, rfl, ⟨by decide +kernel, by decide +kernel, by decide +kernel⟩⟩
theorem cv_X6_316_X6 : zCV "FranchiseLedgerModel" 316 "FranchiseLedgerModel" yX6_byteAt cX6_byteAt 2 (Option.some Jvm.ClassFile.FieldType.int) 1 := ⟨q3099, q3101, qs103, q156, q3102, rfl, ⟨by decide +kernel, by decide +kernel, by decide +kernel⟩⟩
theorem fl_X6_319_X6 : zFL "FranchiseLedgerModel" 319 1 14 := ⟨RX6, TX6, 22, "FranchiseLedgerModel", rfl, in_X6, by decide, Or.inl q2555, Or.inl rfl⟩
theorem pl_X6_319_X6 : zPL "FranchiseLedgerModel" 319 1 14 .int false := ⟨RX6, TX6, 22, "FranchiseLedgerModel", tyX6, rfl, in_X6, by decide, Or.inl q2555, Or.inl rfl, tyX6_ok, nmX6, rfl, (fun h => by cases h), rfl⟩
theorem fl_X6_322_X6 : zFL "FranchiseLedgerModel" 322 1 16 := ⟨RX6, TX6, 22, "FranchiseLedgerModel", rfl, in_X6, by decide, Or.inl q2557, Or.inl rfl⟩
theorem pl_X6_322_X6 : zPL "FranchiseLedgerModel" 322 1 16 .long false := ⟨RX6, TX6, 22, "FranchiseLedgerModel", tyX6, rfl, in_X6, by decide, Or.inl q2557, Or.inl rfl, tyX6_ok, nmX6, rfl, (fun h => by cases h), rfl⟩
theorem cv_X6_326 : zCS "FranchiseLedgerModel" 326 yX6_isLetter cX6_isLetter 1 (Option.some Jvm.ClassFile.FieldType.boolean) 1 := ⟨q3103, q3104, q156, q3105, ⟨by decide +kernel, by decide +kernel, by decide +kernel⟩⟩
theorem cv_X6_329 : zCS "FranchiseLedgerModel" 329 yX6_isDigit cX6_isDigit 1 (Option.some Jvm.ClassFile.FieldType.boolean) 1 := ⟨q3108, q3109, q156, q3110, ⟨by decide +kernel, by decide +kernel, by decide +kernel⟩⟩
theorem fl_X6_332_X6 : zFL "FranchiseLedgerModel" 332 1 13 := ⟨RX6, TX6, 22, "FranchiseLedgerModel", rfl, in_X6, by decide, Or.inl q2554, Or.inl rfl⟩
theorem pl_X6_332_X6 : zPL "FranchiseLedgerModel" 332 1 13 .int false := ⟨RX6, TX6, 22, "FranchiseLedgerModel", tyX6, rfl, in_X6, by decide, Or.inl q2554, Or.inl rfl, tyX6_ok, nmX6, rfl, (fun h => by cases h), rfl⟩
theorem cv_X6_402_X6 : zCV "FranchiseLedgerModel" 402 "FranchiseLedgerModel" yX6_readStatement cX6_readStatement 1 (Option.some Jvm.ClassFile.FieldType.boolean) 0 := ⟨q3113, q3115, qs104, q156, q3116, rfl, ⟨by decide +kernel, by decide +kernel, by decide +kernel⟩⟩
theorem cv_X6_366_X6 : zCV "FranchiseLedgerModel" 366 "FranchiseLedgerModel" yX6_statement cX6_statement 1 (Option.some Jvm.ClassFile.FieldType.int) 0 := ⟨q3117, q3119, qs105, q156, q3120, rfl, ⟨by decide +kernel, by decide +kernel, by decide +kernel⟩⟩
theorem cv_X6_383_X6 : zCV "FranchiseLedgerModel" 383 "FranchiseLedgerModel" yX6_readPlan cX6_readPlan 4 (Option.some Jvm.ClassFile.FieldType.boolean) 0 := ⟨q3123, q3125, qs106, q156, q3126, rfl, ⟨by decide +kernel, by decide +kernel, by decide +kernel⟩⟩
theorem cv_X6_355_X6 : zCV "FranchiseLedgerModel" 355 "FranchiseLedgerModel" yX6_readInto cX6_readInto 6 (Option.some Jvm.ClassFile.FieldType.boolean) 4 := ⟨q3131, q3133, qs108, q156, q3134, rfl, ⟨by decide +kernel, by decide +kernel, by decide +kernel⟩⟩
theorem cv_X6_348_X6 : zCV "FranchiseLedgerModel" 348 "FranchiseLedgerModel" yX6_readNumber cX6_readNumber 3 (Option.some Jvm.ClassFile.FieldType.boolean) 2 := ⟨q3135, q3137, qs109, q156, q3138, rfl, ⟨by decide +kernel, by decide +kernel, by decide +kernel⟩⟩
theorem fl_X6_342_X6 : zFL "FranchiseLedgerModel" 342 1 15 := ⟨RX6, TX6, 22, "FranchiseLedgerModel", rfl, in_X6, by decide, Or.inl q2556, Or.inl rfl⟩
theorem pl_X6_342_X6 : zPL "FranchiseLedgerModel" 342 1 15 .int false := ⟨RX6, TX6, 22, "FranchiseLedgerModel", tyX6, rfl, in_X6, by decide, Or.inl q2556, Or.inl rfl, tyX6_ok, nmX6, rfl, (fun h => by cases h), rfl⟩
theorem cv_X6_339_X6 : zCV "FranchiseLedgerModel" 339 "FranchiseLedgerModel" yX6_fail cX6_fail 2 (Option.some Jvm.ClassFile.FieldType.boolean) 1 := ⟨q3127, q3129, qs107, q156, q3130, rfl, ⟨by decide +kernel, by decide +kernel, by decide +kernel⟩⟩
theorem cv_X6_361_X6 : zCV "FranchiseLedgerModel" 361 "FranchiseLedgerModel" yX6_readEnd cX6_readEnd 1 (Option.some Jvm.ClassFile.FieldType.boolean) 0 := ⟨q3140, q3142, qs110, q156, q3143, rfl, ⟨by decide +kernel, by decide +kernel, by decide +kernel⟩⟩
theorem cv_X6_386_X6 : zCV "FranchiseLedgerModel" 386 "FranchiseLedgerModel" yX6_readFranchisee cX6_readFranchisee 2 (Option.some Jvm.ClassFile.FieldType.boolean) 0 := ⟨q3144, q3146, qs111, q156, q3147, rfl, ⟨by decide +kernel, by decide +kernel, by decide +kernel⟩⟩
theorem cv_X6_370_X6 : zCV "FranchiseLedgerModel" 370 "FranchiseLedgerModel" yX6_named cX6_named 5 (Option.some Jvm.ClassFile.FieldType.int) 2 := ⟨q3149, q3151, qs112, q156, q3152, rfl, ⟨by decide +kernel, by decide +kernel, by decide +kernel⟩⟩
theorem cv_X6_389_X6 : zCV "FranchiseLedgerModel" 389 "FranchiseLedgerModel" yX6_readArea cX6_readArea 7 (Option.some Jvm.ClassFile.FieldType.boolean) 0 := ⟨q3153, q3155, qs113, q156, q3156, rfl, ⟨by decide +kernel, by decide +kernel, by decide +kernel⟩⟩
theorem cv_X6_374_X6 : zCV "FranchiseLedgerModel" 374 "FranchiseLedgerModel" yX6_readName cX6_readName 4 (Option.some Jvm.ClassFile.FieldType.int) 1 := ⟨q3157, q3159, qs114, q156, q3160, rfl, ⟨by decide +kernel, by decide +kernel, by decide +kernel⟩⟩
theorem cv_X6_377_X6 : zCV "FranchiseLedgerModel" 377 "FranchiseLedgerModel" yX6_hasOther cX6_hasOther 7 (Option.some Jvm.ClassFile.FieldType.boolean) 5 := ⟨q3161, q3163, qs115, q156, q3164, rfl, ⟨by decide +kernel, by decide +kernel, by decide +kernel⟩⟩
theorem cv_X6_392_X6 : zCV "FranchiseLedgerModel" 392 "FranchiseLedgerModel" yX6_readOutlet cX6_readOutlet 4 (Option.some Jvm.ClassFile.FieldType.boolean) 0 := ⟨q3165, q3167, qs116, q156, q3168, rfl, ⟨by decide +kernel, by decide +kernel, by decide +kernel⟩⟩
theorem cv_X6_380_X6 : zCV "FranchiseLedgerModel" 380 "FranchiseLedgerModel" yX6_hasOutletRead cX6_hasOutletRead 4 (Option.some Jvm.ClassFile.FieldType.boolean) 2 := ⟨q3169, q3171, qs117, q156, q3172, rfl, ⟨by decide +kernel, by decide +kernel, by decide +kernel⟩⟩
theorem cv_X6_395_X6 : zCV "FranchiseLedgerModel" 395 "FranchiseLedgerModel" yX6_readSetting cX6_readSetting 5 (Option.some Jvm.ClassFile.FieldType.boolean) 3 := ⟨q3173, q3175, qs118, q156, q3176, rfl, ⟨by decide +kernel, by decide +kernel, by decide +kernel⟩⟩
theorem pl_X6_75_X6 : zPL "FranchiseLedgerModel" 75 1 19 .int false := ⟨RX6, TX6, 22, "FranchiseLedgerModel", tyX6, rfl, in_X6, by decide, Or.inl q2560, Or.inl rfl, tyX6_ok, nmX6, rfl, (fun h => by cases h), rfl⟩
theorem pl_X6_78_X6 : zPL "FranchiseLedgerModel" 78 1 20 .int false := ⟨RX6, TX6, 22, "FranchiseLedgerModel", tyX6, rfl, in_X6, by decide, Or.inl q2561, Or.inl rfl, tyX6_ok, nmX6, rfl, (fun h => by cases h), rfl⟩
theorem fl_X6_419_X6 : zFL "FranchiseLedgerModel" 419 1 21 := ⟨RX6, TX6, 22, "FranchiseLedgerModel", rfl, in_X6, by decide, Or.inl q2562, Or.inl rfl⟩
theorem pl_X6_419_X6 : zPL "FranchiseLedgerModel" 419 1 21 .int false := ⟨RX6, TX6, 22, "FranchiseLedgerModel", tyX6, rfl, in_X6, by decide, Or.inl q2562, Or.inl rfl, tyX6_ok, nmX6, rfl, (fun h => by cases h), rfl⟩
theorem cv_X6_425_X6 : zCV "FranchiseLedgerModel" 425 "FranchiseLedgerModel" yX6_readEntry cX6_readEntry 3 (Option.some Jvm.ClassFile.FieldType.boolean) 0 := ⟨q3181, q3183, qs119, q156, q3184, rfl, ⟨by decide +kernel, by decide +kernel, by decide +kernel⟩⟩
theorem cv_X6_416_X6 : zCV "FranchiseLedgerModel" 416 "FranchiseLedgerModel" yX6_entryKind cX6_entryKind 1 (Option.some Jvm.ClassFile.FieldType.int) 0 := ⟨q3185, q3187, qs120, q156, q3188, rfl, ⟨by decide +kernel, by decide +kernel, by decide +kernel⟩⟩
theorem cv_X6_422_X6 : zCV "FranchiseLedgerModel" 422 "FranchiseLedgerModel" yX6_readParts cX6_readParts 3 (Option.some Jvm.ClassFile.FieldType.boolean) 2 := ⟨q3189, q3191, qs121, q156, q3192, rfl, ⟨by decide +kernel, by decide +kernel, by decide +kernel⟩⟩
theorem cv_X6_405_X6 : zCV "FranchiseLedgerModel" 405 "FranchiseLedgerModel" yX6_readPart cX6_readPart 4 (Option.some Jvm.ClassFile.FieldType.boolean) 3 := ⟨q3193, q3195, qs122, q156, q3196, rfl, ⟨by decide +kernel, by decide +kernel, by decide +kernel⟩⟩
theorem cv_X6_409_X6 : zCV "FranchiseLedgerModel" 409 "FranchiseLedgerModel" yX6_readWho cX6_readWho 2 (Option.some Jvm.ClassFile.FieldType.boolean) 1 := ⟨q3198, q3200, qs123, q156, q3201, rfl, ⟨by decide +kernel, by decide +kernel, by decide +kernel⟩⟩
theorem cv_X6_413_X6 : zCV "FranchiseLedgerModel" 413 "FranchiseLedgerModel" yX6_readVote cX6_readVote 3 (Option.some Jvm.ClassFile.FieldType.boolean) 1 := ⟨q3203, q3205, qs124, q156, q3206, rfl, ⟨by decide +kernel, by decide +kernel, by decide +kernel⟩⟩
theorem cv_X6_461_X6 : zCV "FranchiseLedgerModel" 461 "FranchiseLedgerModel" yX6_execute cX6_execute 2 (Option.some Jvm.ClassFile.FieldType.boolean) 0 := ⟨q3212, q3214, qs125, q156, q3215, rfl, ⟨by decide +kernel, by decide +kernel, by decide +kernel⟩⟩
theorem cv_X6_428_X6 : zCV "FranchiseLedgerModel" 428 "FranchiseLedgerModel" yX6_entry cX6_entry 2 (Option.some Jvm.ClassFile.FieldType.int) 1 := ⟨q3216, q3218, qs126, q156, q3219, rfl, ⟨by decide +kernel, by decide +kernel, by decide +kernel⟩⟩
theorem cv_X6_431_X6 : zCV "FranchiseLedgerModel" 431 "FranchiseLedgerModel" yX6_cents cX6_cents 2 (Option.some Jvm.ClassFile.FieldType.long) 1 := ⟨q3220, q3222, qs127, q156, q3223, rfl, ⟨by decide +kernel, by decide +kernel, by decide +kernel⟩⟩
theorem cv_X6_434_X6 : zCV "FranchiseLedgerModel" 434 "FranchiseLedgerModel" yX6_reportSales cX6_reportSales 6 (Option.some Jvm.ClassFile.FieldType.long) 2 := ⟨q3224, q2841, q2842, q156, q2843, rfl, ⟨by decide +kernel, by decide +kernel, by decide +kernel⟩⟩
theorem cv_X6_437_X6 : zCV "FranchiseLedgerModel" 437 "FranchiseLedgerModel" yX6_deliver cX6_deliver 8 (Option.some Jvm.ClassFile.FieldType.long) 4 := ⟨q3225, q2851, q2852, q156, q2853, rfl, ⟨by decide +kernel, by decide +kernel, by decide +kernel⟩⟩
theorem cv_X6_441_X6 : zCV "FranchiseLedgerModel" 441 "FranchiseLedgerModel" yX6_pay cX6_pay 4 (Option.some Jvm.ClassFile.FieldType.long) 2 := ⟨q3226, q2932, q2933, q156, q2934, rfl, ⟨by decide +kernel, by decide +kernel, by decide +kernel⟩⟩
theorem cv_X6_444_X6 : zCV "FranchiseLedgerModel" 444 "FranchiseLedgerModel" yX6_grant cX6_grant 4 (Option.some Jvm.ClassFile.FieldType.boolean) 2 := ⟨q3227, q2981, q2982, q156, q2983, rfl, ⟨by decide +kernel, by decide +kernel, by decide +kernel⟩⟩
theorem cv_X6_448_X6 : zCV "FranchiseLedgerModel" 448 "FranchiseLedgerModel" yX6_campaign cX6_campaign 3 (Option.some Jvm.ClassFile.FieldType.boolean) 1 := ⟨q3228, q2977, q2978, q156, q2979, rfl, ⟨by decide +kernel, by decide +kernel, by decide +kernel⟩⟩
theorem cv_X6_456_X6 : zCV "FranchiseLedgerModel" 456 "FranchiseLedgerModel" yX6_closeMonth cX6_closeMonth 8 (Option.some Jvm.ClassFile.FieldType.int) 0 := ⟨q3230, q2888, q2889, q156, q2890, rfl, ⟨by decide +kernel, by decide +kernel, by decide +kernel⟩⟩
theorem cv_X6_452_X6 : zCV "FranchiseLedgerModel" 452 "FranchiseLedgerModel" yX6_vote cX6_vote 4 (Option.some Jvm.ClassFile.FieldType.int) 3 := ⟨q3229, q3006, q3007, q156, q3008, rfl, ⟨by decide +kernel, by decide +kernel, by decide +kernel⟩⟩
def f_X6_clearBlock_l30 (E : zE) : Nat → Nat → Int32 → Int32 → zH → Option (Unit × zH)
  | 0, _, _, _, _ => none
  | n + 1, p0, p1, p2, h =>
    if (900 : Int32) ≤ p2 then (
      some ((), h)
    ) else (
      (gR h p0 1 0).bind fun x2 =>
      (sL h x2 ((((5054 : Int32) * p1) + (250 : Int32)) + p2) (-1 : Int64)).bind fun h4 =>
      f_X6_clearBlock_l30 E n p0 p1 (p2 + 1) h4
    )
theorem w_X6_clearBlock_l30 (C0 : zCx p l e R s m args below meth c D B0 3 "FranchiseLedgerModel" cX6_clearBlock E 1 60 (Option.none : Option Jvm.ClassFile.FieldType) "clearBlock") {r : Unit} {h' : zH} : ∀ (n : Nat) (p0 : Nat) (p1 : Int32) (p2 : Int32) (h : zH), f_X6_clearBlock_l30 E n p0 p1 p2 h = some (r, h') → zW p l e R s m args below meth c D B0 3 (zEnd D B0 R below args s (zoV r) h') h 30 [(0, .ref p0), (1, .int p1), (2, .int p2)] [] := by
  intro n
  induction n with
  | zero =>
    intro p0 p1 p2 h hf
    unfold f_X6_clearBlock_l30 at hf
    cases hf
  | succ n ih =>
    intro p0 p1 p2 h hf
    unfold f_X6_clearBlock_l30 at hf
    refine zr_iload_n C0 dX6_clearBlock_30 rfl 2 rfl ?_
    refine zr_sipush C0 (v := 900) dX6_clearBlock_31 (by decide) ?_
    refine zr_icmp_ge C0 (tgt := 62) dX6_clearBlock_34 (by decide) (fun c1 => ?_) (fun c1 => ?_)
    · have hf := zif_t c1 hf
      refine zretW hf ?_
      exact zr_vret C0 rfl dX6_clearBlock_62 rfl
    · have hf := zif_f c1 hf
      refine zr_aload_n C0 dX6_clearBlock_37 rfl 0 rfl ?_
      obtain ⟨x2, e3, hf⟩ := zbind hf
      refine zr_get C0 fl_X6_9_X6 dX6_clearBlock_38 (zgR e3) ?_
      refine zr_sipush C0 (v := 5054) dX6_clearBlock_41 (by decide) ?_
      refine zr_iload_n C0 dX6_clearBlock_44 rfl 1 rfl ?_
      refine zr_imul C0 dX6_clearBlock_45 ?_
      refine zr_sipush C0 (v := 250) dX6_clearBlock_46 (by decide) ?_
      refine zr_iadd C0 dX6_clearBlock_49 ?_
      refine zr_iload_n C0 dX6_clearBlock_50 rfl 2 rfl ?_
      refine zr_iadd C0 dX6_clearBlock_51 ?_
      refine zr_ldc2 C0 (v := -1) q2540 dX6_clearBlock_52 ?_
      obtain ⟨h4, e5, hf⟩ := zbind hf
      refine zr_last C0 dX6_clearBlock_55 e5 ?_
      refine zr_iinc (lv' := [(2, .int (p2 + 1)), (0, .ref p0), (1, .int p1)]) C0 dX6_clearBlock_56 2 rfl rfl (by decide) (by first | rfl | simp [zst1, zst2, zcat_rf]) ?_
      refine zr_goto C0 (tgt := 30) dX6_clearBlock_59 (by decide) ?_
      refine zr_sub [1, 2, 0] rfl ?_
      exact ih _ _ _ _ hf
def f_X6_clearBlock_l2 (E : zE) : Nat → Nat → Int32 → Int32 → zH → Option (Unit × zH)
  | 0, _, _, _, _ => none
  | n + 1, p0, p1, p2, h =>
    if (5054 : Int32) ≤ p2 then (
      f_X6_clearBlock_l30 E E.1 p0 p1 (0 : Int32) h
    ) else (
      (gR h p0 1 0).bind fun x2 =>
      (sL h x2 (((5054 : Int32) * p1) + p2) (0 : Int64)).bind fun h4 =>
      f_X6_clearBlock_l2 E n p0 p1 (p2 + 1) h4
    )
theorem w_X6_clearBlock_l2 (C0 : zCx p l e R s m args below meth c D B0 3 "FranchiseLedgerModel" cX6_clearBlock E 1 60 (Option.none : Option Jvm.ClassFile.FieldType) "clearBlock") {r : Unit} {h' : zH} : ∀ (n : Nat) (p0 : Nat) (p1 : Int32) (p2 : Int32) (h : zH), f_X6_clearBlock_l2 E n p0 p1 p2 h = some (r, h') → zW p l e R s m args below meth c D B0 3 (zEnd D B0 R below args s (zoV r) h') h 2 [(0, .ref p0), (1, .int p1), (2, .int p2)] [] := by
  intro n
  induction n with
  | zero =>
    intro p0 p1 p2 h hf
    unfold f_X6_clearBlock_l2 at hf
    cases hf
  | succ n ih =>
    intro p0 p1 p2 h hf
    unfold f_X6_clearBlock_l2 at hf
    refine zr_iload_n C0 dX6_clearBlock_2 rfl 2 rfl ?_
    refine zr_sipush C0 (v := 5054) dX6_clearBlock_3 (by decide) ?_
    refine zr_icmp_ge C0 (tgt := 28) dX6_clearBlock_6 (by decide) (fun c1 => ?_) (fun c1 => ?_)
    · have hf := zif_t c1 hf
      refine zr_iconst C0 (v := 0) dX6_clearBlock_28 (by decide) ?_
      refine zr_istore_n (i := 2) (lv' := [(2, .int (0 : Int32)), (0, .ref p0), (1, .int p1)]) C0 dX6_clearBlock_29 rfl (by decide) (by first | rfl | simp [zst1, zst2, zcat_rf]) ?_
      refine zr_sub [1, 2, 0] rfl ?_
      exact w_X6_clearBlock_l30 C0 _ _ _ _ _ hf
    · have hf := zif_f c1 hf
      refine zr_aload_n C0 dX6_clearBlock_9 rfl 0 rfl ?_
      obtain ⟨x2, e3, hf⟩ := zbind hf
      refine zr_get C0 fl_X6_9_X6 dX6_clearBlock_10 (zgR e3) ?_
      refine zr_sipush C0 (v := 5054) dX6_clearBlock_13 (by decide) ?_
      refine zr_iload_n C0 dX6_clearBlock_16 rfl 1 rfl ?_
      refine zr_imul C0 dX6_clearBlock_17 ?_
      refine zr_iload_n C0 dX6_clearBlock_18 rfl 2 rfl ?_
      refine zr_iadd C0 dX6_clearBlock_19 ?_
      refine zr_lconst C0 (v := 0) dX6_clearBlock_20 (by decide) ?_
      obtain ⟨h4, e5, hf⟩ := zbind hf
      refine zr_last C0 dX6_clearBlock_21 e5 ?_
      refine zr_iinc (lv' := [(2, .int (p2 + 1)), (0, .ref p0), (1, .int p1)]) C0 dX6_clearBlock_22 2 rfl rfl (by decide) (by first | rfl | simp [zst1, zst2, zcat_rf]) ?_
      refine zr_goto C0 (tgt := 2) dX6_clearBlock_25 (by decide) ?_
      refine zr_sub [1, 2, 0] rfl ?_
      exact ih _ _ _ _ hf
def f_X6_clearBlock_b0 (E : zE) (p0 : Nat) (p1 : Int32) (h : zH) : Option (Unit × zH) :=
  f_X6_clearBlock_l2 E E.1 p0 p1 (0 : Int32) h
theorem w_X6_clearBlock_b0 (C0 : zCx p l e R s m args below meth c D B0 3 "FranchiseLedgerModel" cX6_clearBlock E 1 60 (Option.none : Option Jvm.ClassFile.FieldType) "clearBlock") {r : Unit} {h' : zH} {p0 : Nat} {p1 : Int32} {h : zH} (hf : f_X6_clearBlock_b0 E p0 p1 h = some (r, h')) : zW p l e R s m args below meth c D B0 3 (zEnd D B0 R below args s (zoV r) h') h 0 [(0, .ref p0), (1, .int p1)] [] := by
  unfold f_X6_clearBlock_b0 at hf
  refine zr_iconst C0 (v := 0) dX6_clearBlock_0 (by decide) ?_
  refine zr_istore_n (i := 2) (lv' := [(2, .int (0 : Int32)), (0, .ref p0), (1, .int p1)]) C0 dX6_clearBlock_1 rfl (by decide) (by first | rfl | simp [zst1, zst2, zcat_rf]) ?_
  refine zr_sub [1, 2, 0] rfl ?_
  exact w_X6_clearBlock_l2 C0 _ _ _ _ _ hf
def f_X6_clearBlock (E : zE) (p0 : Nat) (p1 : Int32) (h : zH) : Option (Unit × zH) := f_X6_clearBlock_b0 E p0 p1 h
theorem m_X6_clearBlock {l : Launch} (hst : l.stackTraces = false) {D : zD} {B0 : Nat} {E : zE} {p0 : Nat} {p1 : Int32} {h h' : zH} {r : Unit} (hf : f_X6_clearBlock E p0 p1 h = some (r, h')) : zMet l yX6_clearBlock (ws_ yX6_clearBlock cX6_clearBlock 3 (Option.none : Option Jvm.ClassFile.FieldType)) 1 60 D B0 E [.ref p0, .int p1] h (zoV r) h' := by
  unfold f_X6_clearBlock at hf
  refine zMet_of hst (by decide +kernel) rfl rfl (Nat.le_of_ble_eq_true rfl) (fun p e R s m below meth c C0 hno => ?_)
  show zW _ _ _ _ _ _ _ _ _ _ _ _ _ _ _ _ [(0, .ref p0), (1, .int p1)] []
  exact w_X6_clearBlock_b0 C0 hf
def f_X6_init_b0 (E : zE) (p0 : Nat) (h : zH) : Option (Unit × zH) :=
  bnd2 (nA h 1 (20216 : Int32) (.inr (.inl fun _ => 0))) fun q1 h2 =>
  (pF h2 p0 1 0 (.ref q1)).bind fun h4 =>
  bnd2 (nA h4 3 (2 : Int32) (.inl fun _ => 0)) fun q6 h7 =>
  (pF h7 p0 1 1 (.ref q6)).bind fun h9 =>
  bnd2 (nA h9 3 (900 : Int32) (.inl fun _ => 0)) fun q11 h12 =>
  (pF h12 p0 1 3 (.ref q11)).bind fun h14 =>
  bnd2 (nA h14 3 (900 : Int32) (.inl fun _ => 0)) fun q16 h17 =>
  (pF h17 p0 1 4 (.ref q16)).bind fun h19 =>
  bnd2 (nA h19 1 (7 : Int32) (.inr (.inl fun _ => 0))) fun q21 h22 =>
  (pF h22 p0 1 5 (.ref q21)).bind fun h24 =>
  bnd2 (nA h24 2 (300 : Int32) (.inl fun _ => 0)) fun q26 h27 =>
  (pF h27 p0 1 6 (.ref q26)).bind fun h29 =>
  bnd2 (nA h29 2 (1500 : Int32) (.inl fun _ => 0)) fun q31 h32 =>
  (pF h32 p0 1 8 (.ref q31)).bind fun h34 =>
  (pF h34 p0 1 12 (.int (-1 : Int32))).bind fun h36 =>
  bnd2 (nA h36 0 (200 : Int32) (.inl fun _ => 0)) fun q38 h39 =>
  (pF h39 p0 1 17 (.ref q38)).bind fun h41 =>
  bnd2 (nA h41 0 (200 : Int32) (.inl fun _ => 0)) fun q43 h44 =>
  (pF h44 p0 1 18 (.ref q43)).bind fun h46 =>
  (cko h46 p0 1).bind fun _ =>
  bnd2 (f_X6_clearBlock E p0 (0 : Int32) h46) fun x51 h49 =>
  some ((), h49)
theorem w_X6_init_b0 (C0 : zCx p l e R s m args below meth c D B0 1 "FranchiseLedgerModel" cX6_init E 2 82 (Option.none : Option Jvm.ClassFile.FieldType) "<init>") {r : Unit} {h' : zH} {p0 : Nat} {h : zH} (hf : f_X6_init_b0 E p0 h = some (r, h')) : zW p l e R s m args below meth c D B0 1 (zEnd D B0 R below args s (zoV r) h') h 0 [(0, .ref p0)] [] := by
  unfold f_X6_init_b0 at hf
  refine zr_aload_n C0 dX6_init_0 rfl 0 rfl ?_
  refine zr_objInit C0 q2535 q182 q183 dX6_init_1 (by decide) (by show _ ≤ _; exact Nat.le_of_ble_eq_true rfl) ?_
  refine zr_aload_n C0 dX6_init_4 rfl 0 rfl ?_
  refine zr_sipush C0 (v := 20216) dX6_init_5 (by decide) ?_
  obtain ⟨q1, h2, e3, hf⟩ := zbind2 hf
  refine zr_newa C0 (atype := .long) (t := 1) q661 rfl (by decide) (fun _ => rfl) dX6_init_8 e3 ?_
  obtain ⟨h4, e5, hf⟩ := zbind hf
  refine zr_put C0 pl_X6_9_X6 dX6_init_10 (fun _ => rfl) rfl rfl e5 ?_
  refine zr_aload_n C0 dX6_init_13 rfl 0 rfl ?_
  refine zr_iconst C0 (v := 2) dX6_init_14 (by decide) ?_
  obtain ⟨q6, h7, e8, hf⟩ := zbind2 hf
  refine zr_newa C0 (atype := .boolean) (t := 3) q627 rfl (by decide) (fun _ => rfl) dX6_init_15 e8 ?_
  obtain ⟨h9, e10, hf⟩ := zbind hf
  refine zr_put C0 pl_X6_13_X6 dX6_init_17 (fun _ => rfl) rfl rfl e10 ?_
  refine zr_aload_n C0 dX6_init_20 rfl 0 rfl ?_
  refine zr_sipush C0 (v := 900) dX6_init_21 (by decide) ?_
  obtain ⟨q11, h12, e13, hf⟩ := zbind2 hf
  refine zr_newa C0 (atype := .boolean) (t := 3) q627 rfl (by decide) (fun _ => rfl) dX6_init_24 e13 ?_
  obtain ⟨h14, e15, hf⟩ := zbind hf
  refine zr_put C0 pl_X6_17_X6 dX6_init_26 (fun _ => rfl) rfl rfl e15 ?_
  refine zr_aload_n C0 dX6_init_29 rfl 0 rfl ?_
  refine zr_sipush C0 (v := 900) dX6_init_30 (by decide) ?_
  obtain ⟨q16, h17, e18, hf⟩ := zbind2 hf
  refine zr_newa C0 (atype := .boolean) (t := 3) q627 rfl (by decide) (fun _ => rfl) dX6_init_33 e18 ?_
  obtain ⟨h19, e20, hf⟩ := zbind hf
  refine zr_put C0 pl_X6_20_X6 dX6_init_35 (fun _ => rfl) rfl rfl e20 ?_
  refine zr_aload_n C0 dX6_init_38 rfl 0 rfl ?_
  refine zr_bipush C0 (v := 7) dX6_init_39 (by decide) ?_
  obtain ⟨q21, h22, e23, hf⟩ := zbind2 hf
  refine zr_newa C0 (atype := .long) (t := 1) q661 rfl (by decide) (fun _ => rfl) dX6_init_41 e23 ?_
  obtain ⟨h24, e25, hf⟩ := zbind hf
  refine zr_put C0 pl_X6_23_X6 dX6_init_43 (fun _ => rfl) rfl rfl e25 ?_
  refine zr_aload_n C0 dX6_init_46 rfl 0 rfl ?_
  refine zr_sipush C0 (v := 300) dX6_init_47 (by decide) ?_
  obtain ⟨q26, h27, e28, hf⟩ := zbind2 hf
  refine zr_newa C0 (atype := .byte) (t := 2) q282 rfl (by decide) (fun _ => rfl) dX6_init_50 e28 ?_
  obtain ⟨h29, e30, hf⟩ := zbind hf
  refine zr_put C0 pl_X6_26_X6 dX6_init_52 (fun _ => rfl) rfl rfl e30 ?_
  refine zr_aload_n C0 dX6_init_55 rfl 0 rfl ?_
  refine zr_sipush C0 (v := 1500) dX6_init_56 (by decide) ?_
  obtain ⟨q31, h32, e33, hf⟩ := zbind2 hf
  refine zr_newa C0 (atype := .byte) (t := 2) q282 rfl (by decide) (fun _ => rfl) dX6_init_59 e33 ?_
  obtain ⟨h34, e35, hf⟩ := zbind hf
  refine zr_put C0 pl_X6_30_X6 dX6_init_61 (fun _ => rfl) rfl rfl e35 ?_
  refine zr_aload_n C0 dX6_init_64 rfl 0 rfl ?_
  refine zr_iconst C0 (v := -1) dX6_init_65 (by decide) ?_
  obtain ⟨h36, e37, hf⟩ := zbind hf
  refine zr_put C0 pl_X6_33_X6 dX6_init_66 (fun h => by cases h) rfl rfl e37 ?_
  refine zr_aload_n C0 dX6_init_69 rfl 0 rfl ?_
  refine zr_sipush C0 (v := 200) dX6_init_70 (by decide) ?_
  obtain ⟨q38, h39, e40, hf⟩ := zbind2 hf
  refine zr_newa C0 (atype := .int) (t := 0) q626 rfl (by decide) (fun _ => rfl) dX6_init_73 e40 ?_
  obtain ⟨h41, e42, hf⟩ := zbind hf
  refine zr_put C0 pl_X6_37_X6 dX6_init_75 (fun _ => rfl) rfl rfl e42 ?_
  refine zr_aload_n C0 dX6_init_78 rfl 0 rfl ?_
  refine zr_sipush C0 (v := 200) dX6_init_79 (by decide) ?_
  obtain ⟨q43, h44, e45, hf⟩ := zbind2 hf
  refine zr_newa C0 (atype := .int) (t := 0) q626 rfl (by decide) (fun _ => rfl) dX6_init_82 e45 ?_
  obtain ⟨h46, e47, hf⟩ := zbind hf
  refine zr_put C0 pl_X6_41_X6 dX6_init_84 (fun _ => rfl) rfl rfl e47 ?_
  refine zr_aload_n C0 dX6_init_87 rfl 0 rfl ?_
  refine zr_iconst C0 (v := 0) dX6_init_88 (by decide) ?_
  obtain ⟨_, e48, hf⟩ := zbind hf
  obtain ⟨x51, h49, e50, hf⟩ := zbind2 hf
  refine zr_callV_r C0 cv_X6_44_X6 rfl (zcko e48) (m_X6_clearBlock C0.2.2.2.2.2.2.1 e50) (by decide) (by decide) rfl rfl (Nat.le_of_ble_eq_true rfl) dX6_init_89 rfl ?_
  refine zretW hf ?_
  exact zr_vret C0 rfl dX6_init_92 rfl
def f_X6_init (E : zE) (p0 : Nat) (h : zH) : Option (Unit × zH) := f_X6_init_b0 E p0 h
theorem m_X6_init {l : Launch} (hst : l.stackTraces = false) {D : zD} {B0 : Nat} {E : zE} {p0 : Nat} {h h' : zH} {r : Unit} (hf : f_X6_init E p0 h = some (r, h')) : zMet l yX6_init (ws_ yX6_init cX6_init 1 (Option.none : Option Jvm.ClassFile.FieldType)) 2 82 D B0 E [.ref p0] h (zoV r) h' := by
  unfold f_X6_init at hf
  refine zMet_of hst (by decide +kernel) rfl rfl (Nat.le_of_ble_eq_true rfl) (fun p e R s m below meth c C0 hno => ?_)
  show zW _ _ _ _ _ _ _ _ _ _ _ _ _ _ _ _ [(0, .ref p0)] []
  exact w_X6_init_b0 C0 hf
def f_X6_thrown_b0 (E : zE) (p0 : Nat) (h : zH) : Option (Int32 × zH) :=
  (gI h p0 1 2).bind fun x1 =>
  some (x1, h)
theorem w_X6_thrown_b0 (C0 : zCx p l e R s m args below meth c D B0 1 "FranchiseLedgerModel" cX6_thrown E 1 60 (Option.some Jvm.ClassFile.FieldType.int) "thrown") {r : Int32} {h' : zH} {p0 : Nat} {h : zH} (hf : f_X6_thrown_b0 E p0 h = some (r, h')) : zW p l e R s m args below meth c D B0 1 (zEnd D B0 R below args s (zoI r) h') h 0 [(0, .ref p0)] [] := by
  unfold f_X6_thrown_b0 at hf
  refine zr_aload_n C0 dX6_thrown_0 rfl 0 rfl ?_
  obtain ⟨x1, e2, hf⟩ := zbind hf
  refine zr_get C0 fl_X6_50_X6 dX6_thrown_1 (zgI e2) ?_
  refine zretW hf ?_
  exact zr_iret C0 (ty := .int) rfl rfl dX6_thrown_4 rfl
def f_X6_thrown (E : zE) (p0 : Nat) (h : zH) : Option (Int32 × zH) := f_X6_thrown_b0 E p0 h
theorem m_X6_thrown {l : Launch} (hst : l.stackTraces = false) {D : zD} {B0 : Nat} {E : zE} {p0 : Nat} {h h' : zH} {r : Int32} (hf : f_X6_thrown E p0 h = some (r, h')) : zMet l yX6_thrown (ws_ yX6_thrown cX6_thrown 1 (Option.some Jvm.ClassFile.FieldType.int)) 1 60 D B0 E [.ref p0] h (zoI r) h' := by
  unfold f_X6_thrown at hf
  refine zMet_of hst (by decide +kernel) rfl rfl (Nat.le_of_ble_eq_true rfl) (fun p e R s m below meth c C0 hno => ?_)
  show zW _ _ _ _ _ _ _ _ _ _ _ _ _ _ _ _ [(0, .ref p0)] []
  exact w_X6_thrown_b0 C0 hf
def f_X6_inRange_b18 (E : zE) (s0 : Int32) (h : zH) : Option (Int32 × zH) :=
  (zgd .boolean s0).bind fun _ =>
  some (s0, h)
theorem w_X6_inRange_b18 (C0 : zCx p l e R s m args below meth c D B0 6 "FranchiseLedgerModel" cX6_inRange E 1 60 (Option.some Jvm.ClassFile.FieldType.boolean) "inRange") {r : Int32} {h' : zH} {s0 : Int32} {h : zH} (hf : f_X6_inRange_b18 E s0 h = some (r, h')) : zW p l e R s m args below meth c D B0 6 (zEnd D B0 R below args s (zoI r) h') h 18 [] [.int s0] := by
  unfold f_X6_inRange_b18 at hf
  obtain ⟨_, e1, hf⟩ := zbind hf
  refine zretW hf ?_
  exact zr_iret C0 (ty := .boolean) rfl (zgd_n e1) dX6_inRange_18 rfl
def f_X6_inRange_b17 (E : zE) (h : zH) : Option (Int32 × zH) :=
  f_X6_inRange_b18 E (0 : Int32) h
theorem w_X6_inRange_b17 (C0 : zCx p l e R s m args below meth c D B0 6 "FranchiseLedgerModel" cX6_inRange E 1 60 (Option.some Jvm.ClassFile.FieldType.boolean) "inRange") {r : Int32} {h' : zH} {h : zH} (hf : f_X6_inRange_b17 E  h = some (r, h')) : zW p l e R s m args below meth c D B0 6 (zEnd D B0 R below args s (zoI r) h') h 17 [] [] := by
  unfold f_X6_inRange_b17 at hf
  refine zr_iconst C0 (v := 0) dX6_inRange_17 (by decide) ?_
  exact w_X6_inRange_b18 C0 hf
def f_X6_inRange_b0 (E : zE) (p0 : Int64) (p2 : Int64) (p4 : Int64) (h : zH) : Option (Int32 × zH) :=
  if p0 < p2 then (
    f_X6_inRange_b17 E  h
  ) else (
    if p4 < p0 then (
      f_X6_inRange_b17 E  h
    ) else (
      f_X6_inRange_b18 E (1 : Int32) h
    )
  )
theorem w_X6_inRange_b0 (C0 : zCx p l e R s m args below meth c D B0 6 "FranchiseLedgerModel" cX6_inRange E 1 60 (Option.some Jvm.ClassFile.FieldType.boolean) "inRange") {r : Int32} {h' : zH} {p0 : Int64} {p2 : Int64} {p4 : Int64} {h : zH} (hf : f_X6_inRange_b0 E p0 p2 p4 h = some (r, h')) : zW p l e R s m args below meth c D B0 6 (zEnd D B0 R below args s (zoI r) h') h 0 [(0, .long p0), (2, .long p2), (4, .long p4)] [] := by
  unfold f_X6_inRange_b0 at hf
  refine zr_lload_n C0 dX6_inRange_0 rfl 0 rfl ?_
  refine zr_lload_n C0 dX6_inRange_1 rfl 1 rfl ?_
  refine zr_lcmp C0 dX6_inRange_2 ?_
  refine zr_if_lt C0 (tgt := 17) dX6_inRange_3 (by decide) (fun c1 => ?_) (fun c1 => ?_)
  · have hf := zif_t (zl_lt.mp c1) hf
    refine zr_sub [] rfl ?_
    exact w_X6_inRange_b17 C0 hf
  · have hf := zif_f (zl_ltn.mp c1) hf
    refine zr_lload_n C0 dX6_inRange_6 rfl 0 rfl ?_
    refine zr_lload C0 dX6_inRange_7 2 rfl ?_
    refine zr_lcmp C0 dX6_inRange_9 ?_
    refine zr_if_gt C0 (tgt := 17) dX6_inRange_10 (by decide) (fun c2 => ?_) (fun c2 => ?_)
    · have hf := zif_t (zl_gt.mp c2) hf
      refine zr_sub [] rfl ?_
      exact w_X6_inRange_b17 C0 hf
    · have hf := zif_f (zl_gtn.mp c2) hf
      refine zr_iconst C0 (v := 1) dX6_inRange_13 (by decide) ?_
      refine zr_goto C0 (tgt := 18) dX6_inRange_14 (by decide) ?_
      refine zr_sub [] rfl ?_
      exact w_X6_inRange_b18 C0 hf
def f_X6_inRange (E : zE) (p0 : Int64) (p2 : Int64) (p4 : Int64) (h : zH) : Option (Int32 × zH) := f_X6_inRange_b0 E p0 p2 p4 h
theorem m_X6_inRange {l : Launch} (hst : l.stackTraces = false) {D : zD} {B0 : Nat} {E : zE} {p0 : Int64} {p2 : Int64} {p4 : Int64} {h h' : zH} {r : Int32} (hf : f_X6_inRange E p0 p2 p4 h = some (r, h')) : zMet l yX6_inRange (ws_ yX6_inRange cX6_inRange 6 (Option.some Jvm.ClassFile.FieldType.boolean)) 1 60 D B0 E [.long p0, .long p2, .long p4] h (zoI r) h' := by
  unfold f_X6_inRange at hf
  refine zMet_of hst (by decide +kernel) rfl rfl (Nat.le_of_ble_eq_true rfl) (fun p e R s m below meth c C0 hno => ?_)
  show zW _ _ _ _ _ _ _ _ _ _ _ _ _ _ _ _ [(0, .long p0), (2, .long p2), (4, .long p4)] []
  exact w_X6_inRange_b0 C0 hf
def f_X6_copyBlock_l2 (E : zE) : Nat → Nat → Int32 → Int32 → Int32 → zH → Option (Unit × zH)
  | 0, _, _, _, _, _ => none
  | n + 1, p0, p1, p2, p3, h =>
    if (5054 : Int32) ≤ p3 then (
      some ((), h)
    ) else (
      (gR h p0 1 0).bind fun x2 =>
      (gR h p0 1 0).bind fun x4 =>
      (dL h x4 (((5054 : Int32) * p1) + p3)).bind fun x6 =>
      (sL h x2 (((5054 : Int32) * p2) + p3) x6).bind fun h8 =>
      f_X6_copyBlock_l2 E n p0 p1 p2 (p3 + 1) h8
    )
theorem w_X6_copyBlock_l2 (C0 : zCx p l e R s m args below meth c D B0 4 "FranchiseLedgerModel" cX6_copyBlock E 1 60 (Option.none : Option Jvm.ClassFile.FieldType) "copyBlock") {r : Unit} {h' : zH} : ∀ (n : Nat) (p0 : Nat) (p1 : Int32) (p2 : Int32) (p3 : Int32) (h : zH), f_X6_copyBlock_l2 E n p0 p1 p2 p3 h = some (r, h') → zW p l e R s m args below meth c D B0 4 (zEnd D B0 R below args s (zoV r) h') h 2 [(0, .ref p0), (1, .int p1), (2, .int p2), (3, .int p3)] [] := by
  intro n
  induction n with
  | zero =>
    intro p0 p1 p2 p3 h hf
    unfold f_X6_copyBlock_l2 at hf
    cases hf
  | succ n ih =>
    intro p0 p1 p2 p3 h hf
    unfold f_X6_copyBlock_l2 at hf
    refine zr_iload_n C0 dX6_copyBlock_2 rfl 3 rfl ?_
    refine zr_sipush C0 (v := 5054) dX6_copyBlock_3 (by decide) ?_
    refine zr_icmp_ge C0 (tgt := 39) dX6_copyBlock_6 (by decide) (fun c1 => ?_) (fun c1 => ?_)
    · have hf := zif_t c1 hf
      refine zretW hf ?_
      exact zr_vret C0 rfl dX6_copyBlock_39 rfl
    · have hf := zif_f c1 hf
      refine zr_aload_n C0 dX6_copyBlock_9 rfl 0 rfl ?_
      obtain ⟨x2, e3, hf⟩ := zbind hf
      refine zr_get C0 fl_X6_9_X6 dX6_copyBlock_10 (zgR e3) ?_
      refine zr_sipush C0 (v := 5054) dX6_copyBlock_13 (by decide) ?_
      refine zr_iload_n C0 dX6_copyBlock_16 rfl 2 rfl ?_
      refine zr_imul C0 dX6_copyBlock_17 ?_
      refine zr_iload_n C0 dX6_copyBlock_18 rfl 3 rfl ?_
      refine zr_iadd C0 dX6_copyBlock_19 ?_
      refine zr_aload_n C0 dX6_copyBlock_20 rfl 0 rfl ?_
      obtain ⟨x4, e5, hf⟩ := zbind hf
      refine zr_get C0 fl_X6_9_X6 dX6_copyBlock_21 (zgR e5) ?_
      refine zr_sipush C0 (v := 5054) dX6_copyBlock_24 (by decide) ?_
      refine zr_iload_n C0 dX6_copyBlock_27 rfl 1 rfl ?_
      refine zr_imul C0 dX6_copyBlock_28 ?_
      refine zr_iload_n C0 dX6_copyBlock_29 rfl 3 rfl ?_
      refine zr_iadd C0 dX6_copyBlock_30 ?_
      obtain ⟨x6, e7, hf⟩ := zbind hf
      refine zr_lald C0 dX6_copyBlock_31 e7 ?_
      obtain ⟨h8, e9, hf⟩ := zbind hf
      refine zr_last C0 dX6_copyBlock_32 e9 ?_
      refine zr_iinc (lv' := [(3, .int (p3 + 1)), (0, .ref p0), (1, .int p1), (2, .int p2)]) C0 dX6_copyBlock_33 3 rfl rfl (by decide) (by first | rfl | simp [zst1, zst2, zcat_rf]) ?_
      refine zr_goto C0 (tgt := 2) dX6_copyBlock_36 (by decide) ?_
      refine zr_sub [1, 2, 3, 0] rfl ?_
      exact ih _ _ _ _ _ hf
def f_X6_copyBlock_b0 (E : zE) (p0 : Nat) (p1 : Int32) (p2 : Int32) (h : zH) : Option (Unit × zH) :=
  f_X6_copyBlock_l2 E E.1 p0 p1 p2 (0 : Int32) h
theorem w_X6_copyBlock_b0 (C0 : zCx p l e R s m args below meth c D B0 4 "FranchiseLedgerModel" cX6_copyBlock E 1 60 (Option.none : Option Jvm.ClassFile.FieldType) "copyBlock") {r : Unit} {h' : zH} {p0 : Nat} {p1 : Int32} {p2 : Int32} {h : zH} (hf : f_X6_copyBlock_b0 E p0 p1 p2 h = some (r, h')) : zW p l e R s m args below meth c D B0 4 (zEnd D B0 R below args s (zoV r) h') h 0 [(0, .ref p0), (1, .int p1), (2, .int p2)] [] := by
  unfold f_X6_copyBlock_b0 at hf
  refine zr_iconst C0 (v := 0) dX6_copyBlock_0 (by decide) ?_
  refine zr_istore_n (i := 3) (lv' := [(3, .int (0 : Int32)), (0, .ref p0), (1, .int p1), (2, .int p2)]) C0 dX6_copyBlock_1 rfl (by decide) (by first | rfl | simp [zst1, zst2, zcat_rf]) ?_
  refine zr_sub [1, 2, 3, 0] rfl ?_
  exact w_X6_copyBlock_l2 C0 _ _ _ _ _ _ hf
def f_X6_copyBlock (E : zE) (p0 : Nat) (p1 : Int32) (p2 : Int32) (h : zH) : Option (Unit × zH) := f_X6_copyBlock_b0 E p0 p1 p2 h
theorem m_X6_copyBlock {l : Launch} (hst : l.stackTraces = false) {D : zD} {B0 : Nat} {E : zE} {p0 : Nat} {p1 : Int32} {p2 : Int32} {h h' : zH} {r : Unit} (hf : f_X6_copyBlock E p0 p1 p2 h = some (r, h')) : zMet l yX6_copyBlock (ws_ yX6_copyBlock cX6_copyBlock 4 (Option.none : Option Jvm.ClassFile.FieldType)) 1 60 D B0 E [.ref p0, .int p1, .int p2] h (zoV r) h' := by
  unfold f_X6_copyBlock at hf
  refine zMet_of hst (by decide +kernel) rfl rfl (Nat.le_of_ble_eq_true rfl) (fun p e R s m below meth c C0 hno => ?_)
  show zW _ _ _ _ _ _ _ _ _ _ _ _ _ _ _ _ [(0, .ref p0), (1, .int p1), (2, .int p2)] []
  exact w_X6_copyBlock_b0 C0 hf
def f_X6_saveSnapshot_b0 (E : zE) (p0 : Nat) (p1 : Int32) (h : zH) : Option (Int32 × zH) :=
  (pF h p0 1 2 (.int (0 : Int32))).bind fun h1 =>
  bnd2 (f_X6_inRange E (p1.toInt64) (0 : Int64) (1 : Int64) h1) fun x5 h3 =>
  if x5 = 0 then (
    some ((0 : Int32), h3)
  ) else (
    (cko h3 p0 1).bind fun _ =>
    bnd2 (f_X6_copyBlock E p0 (0 : Int32) ((1 : Int32) + p1) h3) fun x10 h8 =>
    (gR h8 p0 1 1).bind fun x11 =>
    (sI h8 x11 3 p1 (1 : Int32)).bind fun h13 =>
    some ((1 : Int32), h13)
  )
theorem w_X6_saveSnapshot_b0 (C0 : zCx p l e R s m args below meth c D B0 2 "FranchiseLedgerModel" cX6_saveSnapshot E 2 85 (Option.some Jvm.ClassFile.FieldType.boolean) "saveSnapshot") {r : Int32} {h' : zH} {p0 : Nat} {p1 : Int32} {h : zH} (hf : f_X6_saveSnapshot_b0 E p0 p1 h = some (r, h')) : zW p l e R s m args below meth c D B0 2 (zEnd D B0 R below args s (zoI r) h') h 0 [(0, .ref p0), (1, .int p1)] [] := by
  unfold f_X6_saveSnapshot_b0 at hf
  refine zr_aload_n C0 dX6_saveSnapshot_0 rfl 0 rfl ?_
  refine zr_iconst C0 (v := 0) dX6_saveSnapshot_1 (by decide) ?_
  obtain ⟨h1, e2, hf⟩ := zbind hf
  refine zr_put C0 pl_X6_50_X6 dX6_saveSnapshot_2 (fun h => by cases h) rfl rfl e2 ?_
  refine zr_iload_n C0 dX6_saveSnapshot_5 rfl 1 rfl ?_
  refine zr_i2l C0 dX6_saveSnapshot_6 ?_
  refine zr_lconst C0 (v := 0) dX6_saveSnapshot_7 (by decide) ?_
  refine zr_lconst C0 (v := 1) dX6_saveSnapshot_8 (by decide) ?_
  obtain ⟨x5, h3, e4, hf⟩ := zbind2 hf
  refine zr_callS_r C0 cv_X6_53 (m_X6_inRange C0.2.2.2.2.2.2.1 e4) (by decide) (by decide) rfl rfl (Nat.le_of_ble_eq_true rfl) dX6_saveSnapshot_9 rfl ?_
  refine zr_if_ne C0 (tgt := 17) dX6_saveSnapshot_12 (by decide) (fun c6 => ?_) (fun c6 => ?_)
  · have hf := zif_f c6 hf
    refine zr_aload_n C0 dX6_saveSnapshot_17 rfl 0 rfl ?_
    refine zr_iconst C0 (v := 0) dX6_saveSnapshot_18 (by decide) ?_
    refine zr_iconst C0 (v := 1) dX6_saveSnapshot_19 (by decide) ?_
    refine zr_iload_n C0 dX6_saveSnapshot_20 rfl 1 rfl ?_
    refine zr_iadd C0 dX6_saveSnapshot_21 ?_
    obtain ⟨_, e7, hf⟩ := zbind hf
    obtain ⟨x10, h8, e9, hf⟩ := zbind2 hf
    refine zr_callV_r C0 cv_X6_57_X6 rfl (zcko e7) (m_X6_copyBlock C0.2.2.2.2.2.2.1 e9) (by decide) (by decide) rfl rfl (Nat.le_of_ble_eq_true rfl) dX6_saveSnapshot_22 rfl ?_
    refine zr_aload_n C0 dX6_saveSnapshot_25 rfl 0 rfl ?_
    obtain ⟨x11, e12, hf⟩ := zbind hf
    refine zr_get C0 fl_X6_13_X6 dX6_saveSnapshot_26 (zgR e12) ?_
    refine zr_iload_n C0 dX6_saveSnapshot_29 rfl 1 rfl ?_
    refine zr_iconst C0 (v := 1) dX6_saveSnapshot_30 (by decide) ?_
    obtain ⟨h13, e14, hf⟩ := zbind hf
    refine zr_zast C0 dX6_saveSnapshot_31 (Or.inr rfl) e14 ?_
    refine zr_iconst C0 (v := 1) dX6_saveSnapshot_32 (by decide) ?_
    refine zretW hf ?_
    exact zr_iret C0 (ty := .boolean) rfl (by decide) dX6_saveSnapshot_33 rfl
  · have hf := zif_t c6 hf
    refine zr_iconst C0 (v := 0) dX6_saveSnapshot_15 (by decide) ?_
    refine zretW hf ?_
    exact zr_iret C0 (ty := .boolean) rfl (by decide) dX6_saveSnapshot_16 rfl
def f_X6_saveSnapshot (E : zE) (p0 : Nat) (p1 : Int32) (h : zH) : Option (Int32 × zH) := f_X6_saveSnapshot_b0 E p0 p1 h
theorem m_X6_saveSnapshot {l : Launch} (hst : l.stackTraces = false) {D : zD} {B0 : Nat} {E : zE} {p0 : Nat} {p1 : Int32} {h h' : zH} {r : Int32} (hf : f_X6_saveSnapshot E p0 p1 h = some (r, h')) : zMet l yX6_saveSnapshot (ws_ yX6_saveSnapshot cX6_saveSnapshot 2 (Option.some Jvm.ClassFile.FieldType.boolean)) 2 85 D B0 E [.ref p0, .int p1] h (zoI r) h' := by
  unfold f_X6_saveSnapshot at hf
  refine zMet_of hst (by decide +kernel) rfl rfl (Nat.le_of_ble_eq_true rfl) (fun p e R s m below meth c C0 hno => ?_)
  show zW _ _ _ _ _ _ _ _ _ _ _ _ _ _ _ _ [(0, .ref p0), (1, .int p1)] []
  exact w_X6_saveSnapshot_b0 C0 hf
def f_X6_restoreSnapshot_b24 (E : zE) (h : zH) : Option (Int32 × zH) :=
  some ((0 : Int32), h)
theorem w_X6_restoreSnapshot_b24 (C0 : zCx p l e R s m args below meth c D B0 2 "FranchiseLedgerModel" cX6_restoreSnapshot E 2 85 (Option.some Jvm.ClassFile.FieldType.boolean) "restoreSnapshot") {r : Int32} {h' : zH} {h : zH} (hf : f_X6_restoreSnapshot_b24 E  h = some (r, h')) : zW p l e R s m args below meth c D B0 2 (zEnd D B0 R below args s (zoI r) h') h 24 [] [] := by
  unfold f_X6_restoreSnapshot_b24 at hf
  refine zr_iconst C0 (v := 0) dX6_restoreSnapshot_24 (by decide) ?_
  refine zretW hf ?_
  exact zr_iret C0 (ty := .boolean) rfl (by decide) dX6_restoreSnapshot_25 rfl
def f_X6_restoreSnapshot_b0 (E : zE) (p0 : Nat) (p1 : Int32) (h : zH) : Option (Int32 × zH) :=
  (pF h p0 1 2 (.int (0 : Int32))).bind fun h1 =>
  bnd2 (f_X6_inRange E (p1.toInt64) (0 : Int64) (1 : Int64) h1) fun x5 h3 =>
  if x5 = 0 then (
    f_X6_restoreSnapshot_b24 E  h3
  ) else (
    (gR h3 p0 1 1).bind fun x7 =>
    (dI h3 x7 3 p1).bind fun x9 =>
    if x9 = 0 then (
      f_X6_restoreSnapshot_b24 E  h3
    ) else (
      (cko h3 p0 1).bind fun _ =>
      bnd2 (f_X6_copyBlock E p0 ((1 : Int32) + p1) (0 : Int32) h3) fun x15 h13 =>
      some ((1 : Int32), h13)
    )
  )
theorem w_X6_restoreSnapshot_b0 (C0 : zCx p l e R s m args below meth c D B0 2 "FranchiseLedgerModel" cX6_restoreSnapshot E 2 85 (Option.some Jvm.ClassFile.FieldType.boolean) "restoreSnapshot") {r : Int32} {h' : zH} {p0 : Nat} {p1 : Int32} {h : zH} (hf : f_X6_restoreSnapshot_b0 E p0 p1 h = some (r, h')) : zW p l e R s m args below meth c D B0 2 (zEnd D B0 R below args s (zoI r) h') h 0 [(0, .ref p0), (1, .int p1)] [] := by
  unfold f_X6_restoreSnapshot_b0 at hf
  refine zr_aload_n C0 dX6_restoreSnapshot_0 rfl 0 rfl ?_
  refine zr_iconst C0 (v := 0) dX6_restoreSnapshot_1 (by decide) ?_
  obtain ⟨h1, e2, hf⟩ := zbind hf
  refine zr_put C0 pl_X6_50_X6 dX6_restoreSnapshot_2 (fun h => by cases h) rfl rfl e2 ?_
  refine zr_iload_n C0 dX6_restoreSnapshot_5 rfl 1 rfl ?_
  refine zr_i2l C0 dX6_restoreSnapshot_6 ?_
  refine zr_lconst C0 (v := 0) dX6_restoreSnapshot_7 (by decide) ?_
  refine zr_lconst C0 (v := 1) dX6_restoreSnapshot_8 (by decide) ?_
  obtain ⟨x5, h3, e4, hf⟩ := zbind2 hf
  refine zr_callS_r C0 cv_X6_53 (m_X6_inRange C0.2.2.2.2.2.2.1 e4) (by decide) (by decide) rfl rfl (Nat.le_of_ble_eq_true rfl) dX6_restoreSnapshot_9 rfl ?_
  refine zr_if_eq C0 (tgt := 24) dX6_restoreSnapshot_12 (by decide) (fun c6 => ?_) (fun c6 => ?_)
  · have hf := zif_t c6 hf
    refine zr_sub [] rfl ?_
    exact w_X6_restoreSnapshot_b24 C0 hf
  · have hf := zif_f c6 hf
    refine zr_aload_n C0 dX6_restoreSnapshot_15 rfl 0 rfl ?_
    obtain ⟨x7, e8, hf⟩ := zbind hf
    refine zr_get C0 fl_X6_13_X6 dX6_restoreSnapshot_16 (zgR e8) ?_
    refine zr_iload_n C0 dX6_restoreSnapshot_19 rfl 1 rfl ?_
    obtain ⟨x9, e10, hf⟩ := zbind hf
    refine zr_zald C0 dX6_restoreSnapshot_20 e10 ?_
    refine zr_if_ne C0 (tgt := 26) dX6_restoreSnapshot_21 (by decide) (fun c11 => ?_) (fun c11 => ?_)
    · have hf := zif_f c11 hf
      refine zr_aload_n C0 dX6_restoreSnapshot_26 rfl 0 rfl ?_
      refine zr_iconst C0 (v := 1) dX6_restoreSnapshot_27 (by decide) ?_
      refine zr_iload_n C0 dX6_restoreSnapshot_28 rfl 1 rfl ?_
      refine zr_iadd C0 dX6_restoreSnapshot_29 ?_
      refine zr_iconst C0 (v := 0) dX6_restoreSnapshot_30 (by decide) ?_
      obtain ⟨_, e12, hf⟩ := zbind hf
      obtain ⟨x15, h13, e14, hf⟩ := zbind2 hf
      refine zr_callV_r C0 cv_X6_57_X6 rfl (zcko e12) (m_X6_copyBlock C0.2.2.2.2.2.2.1 e14) (by decide) (by decide) rfl rfl (Nat.le_of_ble_eq_true rfl) dX6_restoreSnapshot_31 rfl ?_
      refine zr_iconst C0 (v := 1) dX6_restoreSnapshot_34 (by decide) ?_
      refine zretW hf ?_
      exact zr_iret C0 (ty := .boolean) rfl (by decide) dX6_restoreSnapshot_35 rfl
    · have hf := zif_t c11 hf
      refine zr_sub [] rfl ?_
      exact w_X6_restoreSnapshot_b24 C0 hf
def f_X6_restoreSnapshot (E : zE) (p0 : Nat) (p1 : Int32) (h : zH) : Option (Int32 × zH) := f_X6_restoreSnapshot_b0 E p0 p1 h
theorem m_X6_restoreSnapshot {l : Launch} (hst : l.stackTraces = false) {D : zD} {B0 : Nat} {E : zE} {p0 : Nat} {p1 : Int32} {h h' : zH} {r : Int32} (hf : f_X6_restoreSnapshot E p0 p1 h = some (r, h')) : zMet l yX6_restoreSnapshot (ws_ yX6_restoreSnapshot cX6_restoreSnapshot 2 (Option.some Jvm.ClassFile.FieldType.boolean)) 2 85 D B0 E [.ref p0, .int p1] h (zoI r) h' := by
  unfold f_X6_restoreSnapshot at hf
  refine zMet_of hst (by decide +kernel) rfl rfl (Nat.le_of_ble_eq_true rfl) (fun p e R s m below meth c C0 hno => ?_)
  show zW _ _ _ _ _ _ _ _ _ _ _ _ _ _ _ _ [(0, .ref p0), (1, .int p1)] []
  exact w_X6_restoreSnapshot_b0 C0 hf
def f_X6_count_b0 (E : zE) (p0 : Nat) (p1 : Int32) (h : zH) : Option (Int32 × zH) :=
  (pF h p0 1 2 (.int (0 : Int32))).bind fun h1 =>
  if p1 = 0 then (
    (gR h1 p0 1 0).bind fun x4 =>
    (dL h1 x4 (1 : Int32)).bind fun x6 =>
    some ((x6.toInt32), h1)
  ) else (
  if p1 = 1 then (
    (gR h1 p0 1 0).bind fun x9 =>
    (dL h1 x9 (2 : Int32)).bind fun x11 =>
    some ((x11.toInt32), h1)
  ) else (
  if p1 = 2 then (
    (gR h1 p0 1 0).bind fun x14 =>
    (dL h1 x14 (3 : Int32)).bind fun x16 =>
    some ((x16.toInt32), h1)
  ) else (
  if p1 = 3 then (
    (gI h1 p0 1 19).bind fun x19 =>
    (gI h1 p0 1 20).bind fun x21 =>
    some ((x19 - x21), h1)
  ) else (
    some ((-1 : Int32), h1)
  ))))
theorem w_X6_count_b0 (C0 : zCx p l e R s m args below meth c D B0 2 "FranchiseLedgerModel" cX6_count E 1 60 (Option.some Jvm.ClassFile.FieldType.int) "count") {r : Int32} {h' : zH} {p0 : Nat} {p1 : Int32} {h : zH} (hf : f_X6_count_b0 E p0 p1 h = some (r, h')) : zW p l e R s m args below meth c D B0 2 (zEnd D B0 R below args s (zoI r) h') h 0 [(0, .ref p0), (1, .int p1)] [] := by
  unfold f_X6_count_b0 at hf
  refine zr_aload_n C0 dX6_count_0 rfl 0 rfl ?_
  refine zr_iconst C0 (v := 0) dX6_count_1 (by decide) ?_
  obtain ⟨h1, e2, hf⟩ := zbind hf
  refine zr_put C0 pl_X6_50_X6 dX6_count_2 (fun h => by cases h) rfl rfl e2 ?_
  refine zr_iload_n C0 dX6_count_5 rfl 1 rfl ?_
  rcases Decidable.em (p1 = 0) with c3 | c3
  · have hf := zif_t c3 hf
    refine zr_tableIn C0 (v := 0) (tgt := 36) dX6_count_6 c3 (by decide) (by decide) rfl (by decide) ?_
    refine zr_aload_n C0 dX6_count_36 rfl 0 rfl ?_
    obtain ⟨x4, e5, hf⟩ := zbind hf
    refine zr_get C0 fl_X6_9_X6 dX6_count_37 (zgR e5) ?_
    refine zr_iconst C0 (v := 1) dX6_count_40 (by decide) ?_
    obtain ⟨x6, e7, hf⟩ := zbind hf
    refine zr_lald C0 dX6_count_41 e7 ?_
    refine zr_l2i C0 dX6_count_42 ?_
    refine zretW hf ?_
    exact zr_iret C0 (ty := .int) rfl rfl dX6_count_43 rfl
  have hf := zif_f c3 hf
  rcases Decidable.em (p1 = 1) with c8 | c8
  · have hf := zif_t c8 hf
    refine zr_tableIn C0 (v := 1) (tgt := 44) dX6_count_6 c8 (by decide) (by decide) rfl (by decide) ?_
    refine zr_aload_n C0 dX6_count_44 rfl 0 rfl ?_
    obtain ⟨x9, e10, hf⟩ := zbind hf
    refine zr_get C0 fl_X6_9_X6 dX6_count_45 (zgR e10) ?_
    refine zr_iconst C0 (v := 2) dX6_count_48 (by decide) ?_
    obtain ⟨x11, e12, hf⟩ := zbind hf
    refine zr_lald C0 dX6_count_49 e12 ?_
    refine zr_l2i C0 dX6_count_50 ?_
    refine zretW hf ?_
    exact zr_iret C0 (ty := .int) rfl rfl dX6_count_51 rfl
  have hf := zif_f c8 hf
  rcases Decidable.em (p1 = 2) with c13 | c13
  · have hf := zif_t c13 hf
    refine zr_tableIn C0 (v := 2) (tgt := 52) dX6_count_6 c13 (by decide) (by decide) rfl (by decide) ?_
    refine zr_aload_n C0 dX6_count_52 rfl 0 rfl ?_
    obtain ⟨x14, e15, hf⟩ := zbind hf
    refine zr_get C0 fl_X6_9_X6 dX6_count_53 (zgR e15) ?_
    refine zr_iconst C0 (v := 3) dX6_count_56 (by decide) ?_
    obtain ⟨x16, e17, hf⟩ := zbind hf
    refine zr_lald C0 dX6_count_57 e17 ?_
    refine zr_l2i C0 dX6_count_58 ?_
    refine zretW hf ?_
    exact zr_iret C0 (ty := .int) rfl rfl dX6_count_59 rfl
  have hf := zif_f c13 hf
  rcases Decidable.em (p1 = 3) with c18 | c18
  · have hf := zif_t c18 hf
    refine zr_tableIn C0 (v := 3) (tgt := 60) dX6_count_6 c18 (by decide) (by decide) rfl (by decide) ?_
    refine zr_aload_n C0 dX6_count_60 rfl 0 rfl ?_
    obtain ⟨x19, e20, hf⟩ := zbind hf
    refine zr_get C0 fl_X6_75_X6 dX6_count_61 (zgI e20) ?_
    refine zr_aload_n C0 dX6_count_64 rfl 0 rfl ?_
    obtain ⟨x21, e22, hf⟩ := zbind hf
    refine zr_get C0 fl_X6_78_X6 dX6_count_65 (zgI e22) ?_
    refine zr_isub C0 dX6_count_68 ?_
    refine zretW hf ?_
    exact zr_iret C0 (ty := .int) rfl rfl dX6_count_69 rfl
  have hf := zif_f c18 hf
  refine zr_tableOut C0 (tgt := 70) dX6_count_6 ?_ (by decide) ?_
  · have n0 := lv_neT (a := 0) c3 rfl; have n1 := lv_neT (a := 1) c8 rfl; have n2 := lv_neT (a := 2) c13 rfl; have n3 := lv_neT (a := 3) c18 rfl; omega
  refine zr_iconst C0 (v := -1) dX6_count_70 (by decide) ?_
  refine zretW hf ?_
  exact zr_iret C0 (ty := .int) rfl rfl dX6_count_71 rfl
def f_X6_count (E : zE) (p0 : Nat) (p1 : Int32) (h : zH) : Option (Int32 × zH) := f_X6_count_b0 E p0 p1 h
theorem m_X6_count {l : Launch} (hst : l.stackTraces = false) {D : zD} {B0 : Nat} {E : zE} {p0 : Nat} {p1 : Int32} {h h' : zH} {r : Int32} (hf : f_X6_count E p0 p1 h = some (r, h')) : zMet l yX6_count (ws_ yX6_count cX6_count 2 (Option.some Jvm.ClassFile.FieldType.int)) 1 60 D B0 E [.ref p0, .int p1] h (zoI r) h' := by
  unfold f_X6_count at hf
  refine zMet_of hst (by decide +kernel) rfl rfl (Nat.le_of_ble_eq_true rfl) (fun p e R s m below meth c C0 hno => ?_)
  show zW _ _ _ _ _ _ _ _ _ _ _ _ _ _ _ _ [(0, .ref p0), (1, .int p1)] []
  exact w_X6_count_b0 C0 hf
def f_X6_month_b0 (E : zE) (p0 : Nat) (h : zH) : Option (Int32 × zH) :=
  (pF h p0 1 2 (.int (0 : Int32))).bind fun h1 =>
  (gR h1 p0 1 0).bind fun x3 =>
  (dL h1 x3 (0 : Int32)).bind fun x5 =>
  some ((x5.toInt32), h1)
theorem w_X6_month_b0 (C0 : zCx p l e R s m args below meth c D B0 1 "FranchiseLedgerModel" cX6_month E 1 60 (Option.some Jvm.ClassFile.FieldType.int) "month") {r : Int32} {h' : zH} {p0 : Nat} {h : zH} (hf : f_X6_month_b0 E p0 h = some (r, h')) : zW p l e R s m args below meth c D B0 1 (zEnd D B0 R below args s (zoI r) h') h 0 [(0, .ref p0)] [] := by
  unfold f_X6_month_b0 at hf
  refine zr_aload_n C0 dX6_month_0 rfl 0 rfl ?_
  refine zr_iconst C0 (v := 0) dX6_month_1 (by decide) ?_
  obtain ⟨h1, e2, hf⟩ := zbind hf
  refine zr_put C0 pl_X6_50_X6 dX6_month_2 (fun h => by cases h) rfl rfl e2 ?_
  refine zr_aload_n C0 dX6_month_5 rfl 0 rfl ?_
  obtain ⟨x3, e4, hf⟩ := zbind hf
  refine zr_get C0 fl_X6_9_X6 dX6_month_6 (zgR e4) ?_
  refine zr_iconst C0 (v := 0) dX6_month_9 (by decide) ?_
  obtain ⟨x5, e6, hf⟩ := zbind hf
  refine zr_lald C0 dX6_month_10 e6 ?_
  refine zr_l2i C0 dX6_month_11 ?_
  refine zretW hf ?_
  exact zr_iret C0 (ty := .int) rfl rfl dX6_month_12 rfl
def f_X6_month (E : zE) (p0 : Nat) (h : zH) : Option (Int32 × zH) := f_X6_month_b0 E p0 h
theorem m_X6_month {l : Launch} (hst : l.stackTraces = false) {D : zD} {B0 : Nat} {E : zE} {p0 : Nat} {h h' : zH} {r : Int32} (hf : f_X6_month E p0 h = some (r, h')) : zMet l yX6_month (ws_ yX6_month cX6_month 1 (Option.some Jvm.ClassFile.FieldType.int)) 1 60 D B0 E [.ref p0] h (zoI r) h' := by
  unfold f_X6_month at hf
  refine zMet_of hst (by decide +kernel) rfl rfl (Nat.le_of_ble_eq_true rfl) (fun p e R s m below meth c C0 hno => ?_)
  show zW _ _ _ _ _ _ _ _ _ _ _ _ _ _ _ _ [(0, .ref p0)] []
  exact w_X6_month_b0 C0 hf
def f_X6_isCell_b29 (E : zE) (s0 : Int32) (h : zH) : Option (Int32 × zH) :=
  (zgd .boolean s0).bind fun _ =>
  some (s0, h)
theorem w_X6_isCell_b29 (C0 : zCx p l e R s m args below meth c D B0 2 "FranchiseLedgerModel" cX6_isCell E 2 85 (Option.some Jvm.ClassFile.FieldType.boolean) "isCell") {r : Int32} {h' : zH} {s0 : Int32} {h : zH} (hf : f_X6_isCell_b29 E s0 h = some (r, h')) : zW p l e R s m args below meth c D B0 2 (zEnd D B0 R below args s (zoI r) h') h 29 [] [.int s0] := by
  unfold f_X6_isCell_b29 at hf
  obtain ⟨_, e1, hf⟩ := zbind hf
  refine zretW hf ?_
  exact zr_iret C0 (ty := .boolean) rfl (zgd_n e1) dX6_isCell_29 rfl
def f_X6_isCell_b28 (E : zE) (h : zH) : Option (Int32 × zH) :=
  f_X6_isCell_b29 E (0 : Int32) h
theorem w_X6_isCell_b28 (C0 : zCx p l e R s m args below meth c D B0 2 "FranchiseLedgerModel" cX6_isCell E 2 85 (Option.some Jvm.ClassFile.FieldType.boolean) "isCell") {r : Int32} {h' : zH} {h : zH} (hf : f_X6_isCell_b28 E  h = some (r, h')) : zW p l e R s m args below meth c D B0 2 (zEnd D B0 R below args s (zoI r) h') h 28 [] [] := by
  unfold f_X6_isCell_b28 at hf
  refine zr_iconst C0 (v := 0) dX6_isCell_28 (by decide) ?_
  exact w_X6_isCell_b29 C0 hf
def f_X6_isCell_b0 (E : zE) (p0 : Int32) (p1 : Int32) (h : zH) : Option (Int32 × zH) :=
  bnd2 (f_X6_inRange E (p0.toInt64) (0 : Int64) (29 : Int64) h) fun x3 h1 =>
  if x3 = 0 then (
    f_X6_isCell_b28 E  h1
  ) else (
    bnd2 (f_X6_inRange E (p1.toInt64) (0 : Int64) (29 : Int64) h1) fun x7 h5 =>
    if x7 = 0 then (
      f_X6_isCell_b28 E  h5
    ) else (
      f_X6_isCell_b29 E (1 : Int32) h5
    )
  )
theorem w_X6_isCell_b0 (C0 : zCx p l e R s m args below meth c D B0 2 "FranchiseLedgerModel" cX6_isCell E 2 85 (Option.some Jvm.ClassFile.FieldType.boolean) "isCell") {r : Int32} {h' : zH} {p0 : Int32} {p1 : Int32} {h : zH} (hf : f_X6_isCell_b0 E p0 p1 h = some (r, h')) : zW p l e R s m args below meth c D B0 2 (zEnd D B0 R below args s (zoI r) h') h 0 [(0, .int p0), (1, .int p1)] [] := by
  unfold f_X6_isCell_b0 at hf
  refine zr_iload_n C0 dX6_isCell_0 rfl 0 rfl ?_
  refine zr_i2l C0 dX6_isCell_1 ?_
  refine zr_lconst C0 (v := 0) dX6_isCell_2 (by decide) ?_
  refine zr_ldc2 C0 (v := 29) q2642 dX6_isCell_3 ?_
  obtain ⟨x3, h1, e2, hf⟩ := zbind2 hf
  refine zr_callS_r C0 cv_X6_53 (m_X6_inRange C0.2.2.2.2.2.2.1 e2) (by decide) (by decide) rfl rfl (Nat.le_of_ble_eq_true rfl) dX6_isCell_6 rfl ?_
  refine zr_if_eq C0 (tgt := 28) dX6_isCell_9 (by decide) (fun c4 => ?_) (fun c4 => ?_)
  · have hf := zif_t c4 hf
    refine zr_sub [] rfl ?_
    exact w_X6_isCell_b28 C0 hf
  · have hf := zif_f c4 hf
    refine zr_iload_n C0 dX6_isCell_12 rfl 1 rfl ?_
    refine zr_i2l C0 dX6_isCell_13 ?_
    refine zr_lconst C0 (v := 0) dX6_isCell_14 (by decide) ?_
    refine zr_ldc2 C0 (v := 29) q2642 dX6_isCell_15 ?_
    obtain ⟨x7, h5, e6, hf⟩ := zbind2 hf
    refine zr_callS_r C0 cv_X6_53 (m_X6_inRange C0.2.2.2.2.2.2.1 e6) (by decide) (by decide) rfl rfl (Nat.le_of_ble_eq_true rfl) dX6_isCell_18 rfl ?_
    refine zr_if_eq C0 (tgt := 28) dX6_isCell_21 (by decide) (fun c8 => ?_) (fun c8 => ?_)
    · have hf := zif_t c8 hf
      refine zr_sub [] rfl ?_
      exact w_X6_isCell_b28 C0 hf
    · have hf := zif_f c8 hf
      refine zr_iconst C0 (v := 1) dX6_isCell_24 (by decide) ?_
      refine zr_goto C0 (tgt := 29) dX6_isCell_25 (by decide) ?_
      refine zr_sub [] rfl ?_
      exact w_X6_isCell_b29 C0 hf
def f_X6_isCell (E : zE) (p0 : Int32) (p1 : Int32) (h : zH) : Option (Int32 × zH) := f_X6_isCell_b0 E p0 p1 h
theorem m_X6_isCell {l : Launch} (hst : l.stackTraces = false) {D : zD} {B0 : Nat} {E : zE} {p0 : Int32} {p1 : Int32} {h h' : zH} {r : Int32} (hf : f_X6_isCell E p0 p1 h = some (r, h')) : zMet l yX6_isCell (ws_ yX6_isCell cX6_isCell 2 (Option.some Jvm.ClassFile.FieldType.boolean)) 2 85 D B0 E [.int p0, .int p1] h (zoI r) h' := by
  unfold f_X6_isCell at hf
  refine zMet_of hst (by decide +kernel) rfl rfl (Nat.le_of_ble_eq_true rfl) (fun p e R s m below meth c C0 hno => ?_)
  show zW _ _ _ _ _ _ _ _ _ _ _ _ _ _ _ _ [(0, .int p0), (1, .int p1)] []
  exact w_X6_isCell_b0 C0 hf
def f_X6_throwsIf_b9 (E : zE) (p1 : Int32) (h : zH) : Option (Int32 × zH) :=
  (zgd .boolean p1).bind fun _ =>
  some (p1, h)
theorem w_X6_throwsIf_b9 (C0 : zCx p l e R s m args below meth c D B0 3 "FranchiseLedgerModel" cX6_throwsIf E 1 60 (Option.some Jvm.ClassFile.FieldType.boolean) "throwsIf") {r : Int32} {h' : zH} {p1 : Int32} {h : zH} (hf : f_X6_throwsIf_b9 E p1 h = some (r, h')) : zW p l e R s m args below meth c D B0 3 (zEnd D B0 R below args s (zoI r) h') h 9 [(1, .int p1)] [] := by
  unfold f_X6_throwsIf_b9 at hf
  refine zr_iload_n C0 dX6_throwsIf_9 rfl 0 rfl ?_
  obtain ⟨_, e1, hf⟩ := zbind hf
  refine zretW hf ?_
  exact zr_iret C0 (ty := .boolean) rfl (zgd_n e1) dX6_throwsIf_10 rfl
def f_X6_throwsIf_b0 (E : zE) (p0 : Nat) (p1 : Int32) (p2 : Int32) (h : zH) : Option (Int32 × zH) :=
  if p1 = 0 then (
    f_X6_throwsIf_b9 E p1 h
  ) else (
    (pF h p0 1 2 (.int p2)).bind fun h2 =>
    f_X6_throwsIf_b9 E p1 h2
  )
theorem w_X6_throwsIf_b0 (C0 : zCx p l e R s m args below meth c D B0 3 "FranchiseLedgerModel" cX6_throwsIf E 1 60 (Option.some Jvm.ClassFile.FieldType.boolean) "throwsIf") {r : Int32} {h' : zH} {p0 : Nat} {p1 : Int32} {p2 : Int32} {h : zH} (hf : f_X6_throwsIf_b0 E p0 p1 p2 h = some (r, h')) : zW p l e R s m args below meth c D B0 3 (zEnd D B0 R below args s (zoI r) h') h 0 [(0, .ref p0), (1, .int p1), (2, .int p2)] [] := by
  unfold f_X6_throwsIf_b0 at hf
  refine zr_iload_n C0 dX6_throwsIf_0 rfl 1 rfl ?_
  refine zr_if_eq C0 (tgt := 9) dX6_throwsIf_1 (by decide) (fun c1 => ?_) (fun c1 => ?_)
  · have hf := zif_t c1 hf
    refine zr_sub [1] rfl ?_
    exact w_X6_throwsIf_b9 C0 hf
  · have hf := zif_f c1 hf
    refine zr_aload_n C0 dX6_throwsIf_4 rfl 0 rfl ?_
    refine zr_iload_n C0 dX6_throwsIf_5 rfl 2 rfl ?_
    obtain ⟨h2, e3, hf⟩ := zbind hf
    refine zr_put C0 pl_X6_50_X6 dX6_throwsIf_6 (fun h => by cases h) rfl rfl e3 ?_
    refine zr_sub [1] rfl ?_
    exact w_X6_throwsIf_b9 C0 hf
def f_X6_throwsIf (E : zE) (p0 : Nat) (p1 : Int32) (p2 : Int32) (h : zH) : Option (Int32 × zH) := f_X6_throwsIf_b0 E p0 p1 p2 h
theorem m_X6_throwsIf {l : Launch} (hst : l.stackTraces = false) {D : zD} {B0 : Nat} {E : zE} {p0 : Nat} {p1 : Int32} {p2 : Int32} {h h' : zH} {r : Int32} (hf : f_X6_throwsIf E p0 p1 p2 h = some (r, h')) : zMet l yX6_throwsIf (ws_ yX6_throwsIf cX6_throwsIf 3 (Option.some Jvm.ClassFile.FieldType.boolean)) 1 60 D B0 E [.ref p0, .int p1, .int p2] h (zoI r) h' := by
  unfold f_X6_throwsIf at hf
  refine zMet_of hst (by decide +kernel) rfl rfl (Nat.le_of_ble_eq_true rfl) (fun p e R s m below meth c C0 hno => ?_)
  show zW _ _ _ _ _ _ _ _ _ _ _ _ _ _ _ _ [(0, .ref p0), (1, .int p1), (2, .int p2)] []
  exact w_X6_throwsIf_b0 C0 hf
def f_X6_ownerOf_b0 (E : zE) (p0 : Nat) (p1 : Int32) (p2 : Int32) (h : zH) : Option (Int32 × zH) :=
  (gR h p0 1 0).bind fun x1 =>
  (dL h x1 (((250 : Int32) + ((30 : Int32) * p2)) + p1)).bind fun x3 =>
  some ((x3.toInt32), h)
theorem w_X6_ownerOf_b0 (C0 : zCx p l e R s m args below meth c D B0 3 "FranchiseLedgerModel" cX6_ownerOf E 1 60 (Option.some Jvm.ClassFile.FieldType.int) "ownerOf") {r : Int32} {h' : zH} {p0 : Nat} {p1 : Int32} {p2 : Int32} {h : zH} (hf : f_X6_ownerOf_b0 E p0 p1 p2 h = some (r, h')) : zW p l e R s m args below meth c D B0 3 (zEnd D B0 R below args s (zoI r) h') h 0 [(0, .ref p0), (1, .int p1), (2, .int p2)] [] := by
  unfold f_X6_ownerOf_b0 at hf
  refine zr_aload_n C0 dX6_ownerOf_0 rfl 0 rfl ?_
  obtain ⟨x1, e2, hf⟩ := zbind hf
  refine zr_get C0 fl_X6_9_X6 dX6_ownerOf_1 (zgR e2) ?_
  refine zr_sipush C0 (v := 250) dX6_ownerOf_4 (by decide) ?_
  refine zr_bipush C0 (v := 30) dX6_ownerOf_7 (by decide) ?_
  refine zr_iload_n C0 dX6_ownerOf_9 rfl 2 rfl ?_
  refine zr_imul C0 dX6_ownerOf_10 ?_
  refine zr_iadd C0 dX6_ownerOf_11 ?_
  refine zr_iload_n C0 dX6_ownerOf_12 rfl 1 rfl ?_
  refine zr_iadd C0 dX6_ownerOf_13 ?_
  obtain ⟨x3, e4, hf⟩ := zbind hf
  refine zr_lald C0 dX6_ownerOf_14 e4 ?_
  refine zr_l2i C0 dX6_ownerOf_15 ?_
  refine zretW hf ?_
  exact zr_iret C0 (ty := .int) rfl rfl dX6_ownerOf_16 rfl
def f_X6_ownerOf (E : zE) (p0 : Nat) (p1 : Int32) (p2 : Int32) (h : zH) : Option (Int32 × zH) := f_X6_ownerOf_b0 E p0 p1 p2 h
theorem m_X6_ownerOf {l : Launch} (hst : l.stackTraces = false) {D : zD} {B0 : Nat} {E : zE} {p0 : Nat} {p1 : Int32} {p2 : Int32} {h h' : zH} {r : Int32} (hf : f_X6_ownerOf E p0 p1 p2 h = some (r, h')) : zMet l yX6_ownerOf (ws_ yX6_ownerOf cX6_ownerOf 3 (Option.some Jvm.ClassFile.FieldType.int)) 1 60 D B0 E [.ref p0, .int p1, .int p2] h (zoI r) h' := by
  unfold f_X6_ownerOf at hf
  refine zMet_of hst (by decide +kernel) rfl rfl (Nat.le_of_ble_eq_true rfl) (fun p e R s m below meth c C0 hno => ?_)
  show zW _ _ _ _ _ _ _ _ _ _ _ _ _ _ _ _ [(0, .ref p0), (1, .int p1), (2, .int p2)] []
  exact w_X6_ownerOf_b0 C0 hf
def f_X6_owner_b36 (E : zE) (s0 : Int32) (h : zH) : Option (Int32 × zH) :=
  some (s0, h)
theorem w_X6_owner_b36 (C0 : zCx p l e R s m args below meth c D B0 3 "FranchiseLedgerModel" cX6_owner E 3 106 (Option.some Jvm.ClassFile.FieldType.int) "owner") {r : Int32} {h' : zH} {s0 : Int32} {h : zH} (hf : f_X6_owner_b36 E s0 h = some (r, h')) : zW p l e R s m args below meth c D B0 3 (zEnd D B0 R below args s (zoI r) h') h 36 [] [.int s0] := by
  unfold f_X6_owner_b36 at hf
  refine zretW hf ?_
  exact zr_iret C0 (ty := .int) rfl rfl dX6_owner_36 rfl
def f_X6_owner_b19 (E : zE) (p0 : Nat) (p1 : Int32) (p2 : Int32) (s0 : Nat) (s1 : Int32) (h : zH) : Option (Int32 × zH) :=
  (cko h s0 1).bind fun _ =>
  bnd2 (f_X6_throwsIf E s0 s1 (1 : Int32) h) fun x4 h2 =>
  if x4 = 0 then (
    (cko h2 p0 1).bind fun _ =>
    bnd2 (f_X6_ownerOf E p0 p1 p2 h2) fun x9 h7 =>
    f_X6_owner_b36 E x9 h7
  ) else (
    f_X6_owner_b36 E (0 : Int32) h2
  )
theorem w_X6_owner_b19 (C0 : zCx p l e R s m args below meth c D B0 3 "FranchiseLedgerModel" cX6_owner E 3 106 (Option.some Jvm.ClassFile.FieldType.int) "owner") {r : Int32} {h' : zH} {p0 : Nat} {p1 : Int32} {p2 : Int32} {s0 : Nat} {s1 : Int32} {h : zH} (hf : f_X6_owner_b19 E p0 p1 p2 s0 s1 h = some (r, h')) : zW p l e R s m args below meth c D B0 3 (zEnd D B0 R below args s (zoI r) h') h 19 [(0, .ref p0), (1, .int p1), (2, .int p2)] [.int s1, .ref s0] := by
  unfold f_X6_owner_b19 at hf
  refine zr_iconst C0 (v := 1) dX6_owner_19 (by decide) ?_
  obtain ⟨_, e1, hf⟩ := zbind hf
  obtain ⟨x4, h2, e3, hf⟩ := zbind2 hf
  refine zr_callV_r C0 cv_X6_81_X6 rfl (zcko e1) (m_X6_throwsIf C0.2.2.2.2.2.2.1 e3) (by decide) (by decide) rfl rfl (Nat.le_of_ble_eq_true rfl) dX6_owner_20 rfl ?_
  refine zr_if_eq C0 (tgt := 30) dX6_owner_23 (by decide) (fun c5 => ?_) (fun c5 => ?_)
  · have hf := zif_t c5 hf
    refine zr_aload_n C0 dX6_owner_30 rfl 0 rfl ?_
    refine zr_iload_n C0 dX6_owner_31 rfl 1 rfl ?_
    refine zr_iload_n C0 dX6_owner_32 rfl 2 rfl ?_
    obtain ⟨_, e6, hf⟩ := zbind hf
    obtain ⟨x9, h7, e8, hf⟩ := zbind2 hf
    refine zr_callV_r C0 cv_X6_71_X6 rfl (zcko e6) (m_X6_ownerOf C0.2.2.2.2.2.2.1 e8) (by decide) (by decide) rfl rfl (Nat.le_of_ble_eq_true rfl) dX6_owner_33 rfl ?_
    refine zr_sub [] rfl ?_
    exact w_X6_owner_b36 C0 hf
  · have hf := zif_f c5 hf
    refine zr_iconst C0 (v := 0) dX6_owner_26 (by decide) ?_
    refine zr_goto C0 (tgt := 36) dX6_owner_27 (by decide) ?_
    refine zr_sub [] rfl ?_
    exact w_X6_owner_b36 C0 hf
def f_X6_owner_b0 (E : zE) (p0 : Nat) (p1 : Int32) (p2 : Int32) (h : zH) : Option (Int32 × zH) :=
  (pF h p0 1 2 (.int (0 : Int32))).bind fun h1 =>
  bnd2 (f_X6_isCell E p1 p2 h1) fun x5 h3 =>
  if x5 = 0 then (
    f_X6_owner_b19 E p0 p1 p2 p0 (1 : Int32) h3
  ) else (
    f_X6_owner_b19 E p0 p1 p2 p0 (0 : Int32) h3
  )
theorem w_X6_owner_b0 (C0 : zCx p l e R s m args below meth c D B0 3 "FranchiseLedgerModel" cX6_owner E 3 106 (Option.some Jvm.ClassFile.FieldType.int) "owner") {r : Int32} {h' : zH} {p0 : Nat} {p1 : Int32} {p2 : Int32} {h : zH} (hf : f_X6_owner_b0 E p0 p1 p2 h = some (r, h')) : zW p l e R s m args below meth c D B0 3 (zEnd D B0 R below args s (zoI r) h') h 0 [(0, .ref p0), (1, .int p1), (2, .int p2)] [] := by
  unfold f_X6_owner_b0 at hf
  refine zr_aload_n C0 dX6_owner_0 rfl 0 rfl ?_
  refine zr_iconst C0 (v := 0) dX6_owner_1 (by decide) ?_
  obtain ⟨h1, e2, hf⟩ := zbind hf
  refine zr_put C0 pl_X6_50_X6 dX6_owner_2 (fun h => by cases h) rfl rfl e2 ?_
  refine zr_aload_n C0 dX6_owner_5 rfl 0 rfl ?_
  refine zr_iload_n C0 dX6_owner_6 rfl 1 rfl ?_
  refine zr_iload_n C0 dX6_owner_7 rfl 2 rfl ?_
  obtain ⟨x5, h3, e4, hf⟩ := zbind2 hf
  refine zr_callS_r C0 cv_X6_67 (m_X6_isCell C0.2.2.2.2.2.2.1 e4) (by decide) (by decide) rfl rfl (Nat.le_of_ble_eq_true rfl) dX6_owner_8 rfl ?_
  refine zr_if_ne C0 (tgt := 18) dX6_owner_11 (by decide) (fun c6 => ?_) (fun c6 => ?_)
  · have hf := zif_f c6 hf
    refine zr_iconst C0 (v := 0) dX6_owner_18 (by decide) ?_
    exact w_X6_owner_b19 C0 hf
  · have hf := zif_t c6 hf
    refine zr_iconst C0 (v := 1) dX6_owner_14 (by decide) ?_
    refine zr_goto C0 (tgt := 19) dX6_owner_15 (by decide) ?_
    exact w_X6_owner_b19 C0 hf
def f_X6_owner (E : zE) (p0 : Nat) (p1 : Int32) (p2 : Int32) (h : zH) : Option (Int32 × zH) := f_X6_owner_b0 E p0 p1 p2 h
theorem m_X6_owner {l : Launch} (hst : l.stackTraces = false) {D : zD} {B0 : Nat} {E : zE} {p0 : Nat} {p1 : Int32} {p2 : Int32} {h h' : zH} {r : Int32} (hf : f_X6_owner E p0 p1 p2 h = some (r, h')) : zMet l yX6_owner (ws_ yX6_owner cX6_owner 3 (Option.some Jvm.ClassFile.FieldType.int)) 3 106 D B0 E [.ref p0, .int p1, .int p2] h (zoI r) h' := by
  unfold f_X6_owner at hf
  refine zMet_of hst (by decide +kernel) rfl rfl (Nat.le_of_ble_eq_true rfl) (fun p e R s m below meth c C0 hno => ?_)
  show zW _ _ _ _ _ _ _ _ _ _ _ _ _ _ _ _ [(0, .ref p0), (1, .int p1), (2, .int p2)] []
  exact w_X6_owner_b0 C0 hf
def f_X6_isFranchisee_b0 (E : zE) (p0 : Nat) (p1 : Int32) (h : zH) : Option (Int32 × zH) :=
  (gR h p0 1 0).bind fun x1 =>
  (dL h x1 (2 : Int32)).bind fun x3 =>
  bnd2 (f_X6_inRange E (p1.toInt64) (0 : Int64) (x3 - (1 : Int64)) h) fun x7 h5 =>
  (zgd .boolean x7).bind fun _ =>
  some (x7, h5)
theorem w_X6_isFranchisee_b0 (C0 : zCx p l e R s m args below meth c D B0 2 "FranchiseLedgerModel" cX6_isFranchisee E 2 85 (Option.some Jvm.ClassFile.FieldType.boolean) "isFranchisee") {r : Int32} {h' : zH} {p0 : Nat} {p1 : Int32} {h : zH} (hf : f_X6_isFranchisee_b0 E p0 p1 h = some (r, h')) : zW p l e R s m args below meth c D B0 2 (zEnd D B0 R below args s (zoI r) h') h 0 [(0, .ref p0), (1, .int p1)] [] := by
  unfold f_X6_isFranchisee_b0 at hf
  refine zr_iload_n C0 dX6_isFranchisee_0 rfl 1 rfl ?_
  refine zr_i2l C0 dX6_isFranchisee_1 ?_
  refine zr_lconst C0 (v := 0) dX6_isFranchisee_2 (by decide) ?_
  refine zr_aload_n C0 dX6_isFranchisee_3 rfl 0 rfl ?_
  obtain ⟨x1, e2, hf⟩ := zbind hf
  refine zr_get C0 fl_X6_9_X6 dX6_isFranchisee_4 (zgR e2) ?_
  refine zr_iconst C0 (v := 2) dX6_isFranchisee_7 (by decide) ?_
  obtain ⟨x3, e4, hf⟩ := zbind hf
  refine zr_lald C0 dX6_isFranchisee_8 e4 ?_
  refine zr_lconst C0 (v := 1) dX6_isFranchisee_9 (by decide) ?_
  refine zr_lsub C0 dX6_isFranchisee_10 ?_
  obtain ⟨x7, h5, e6, hf⟩ := zbind2 hf
  refine zr_callS_r C0 cv_X6_53 (m_X6_inRange C0.2.2.2.2.2.2.1 e6) (by decide) (by decide) rfl rfl (Nat.le_of_ble_eq_true rfl) dX6_isFranchisee_11 rfl ?_
  obtain ⟨_, e8, hf⟩ := zbind hf
  refine zretW hf ?_
  exact zr_iret C0 (ty := .boolean) rfl (zgd_n e8) dX6_isFranchisee_14 rfl
def f_X6_isFranchisee (E : zE) (p0 : Nat) (p1 : Int32) (h : zH) : Option (Int32 × zH) := f_X6_isFranchisee_b0 E p0 p1 h
theorem m_X6_isFranchisee {l : Launch} (hst : l.stackTraces = false) {D : zD} {B0 : Nat} {E : zE} {p0 : Nat} {p1 : Int32} {h h' : zH} {r : Int32} (hf : f_X6_isFranchisee E p0 p1 h = some (r, h')) : zMet l yX6_isFranchisee (ws_ yX6_isFranchisee cX6_isFranchisee 2 (Option.some Jvm.ClassFile.FieldType.boolean)) 2 85 D B0 E [.ref p0, .int p1] h (zoI r) h' := by
  unfold f_X6_isFranchisee at hf
  refine zMet_of hst (by decide +kernel) rfl rfl (Nat.le_of_ble_eq_true rfl) (fun p e R s m below meth c C0 hno => ?_)
  show zW _ _ _ _ _ _ _ _ _ _ _ _ _ _ _ _ [(0, .ref p0), (1, .int p1)] []
  exact w_X6_isFranchisee_b0 C0 hf
def f_X6_areaOf_b33 (E : zE) (k4 : Nat → Int32 → Int32 → Int32 → zH → Option (Int32 × zH)) (p0 : Nat) (p1 : Int32) (p3 : Int32) (s0 : Int32) (s1 : Int32) (h : zH) : Option (Int32 × zH) :=
  k4 p0 p1 (s0 + s1) (p3 + 1) h
theorem w_X6_areaOf_b33 (C0 : zCx p l e R s m args below meth c D B0 4 "FranchiseLedgerModel" cX6_areaOf E 1 60 (Option.some Jvm.ClassFile.FieldType.int) "areaOf") {r : Int32} {h' : zH} {k4 : Nat → Int32 → Int32 → Int32 → zH → Option (Int32 × zH)} (hk4 : ∀ (p0 : Nat) (p1 : Int32) (p2 : Int32) (p3 : Int32) (h : zH), k4 p0 p1 p2 p3 h = some (r, h') → zW p l e R s m args below meth c D B0 4 (zEnd D B0 R below args s (zoI r) h') h 4 [(0, .ref p0), (1, .int p1), (2, .int p2), (3, .int p3)] []) {p0 : Nat} {p1 : Int32} {p3 : Int32} {s0 : Int32} {s1 : Int32} {h : zH} (hf : f_X6_areaOf_b33 E k4 p0 p1 p3 s0 s1 h = some (r, h')) : zW p l e R s m args below meth c D B0 4 (zEnd D B0 R below args s (zoI r) h') h 33 [(0, .ref p0), (1, .int p1), (3, .int p3)] [.int s1, .int s0] := by
  unfold f_X6_areaOf_b33 at hf
  refine zr_iadd C0 dX6_areaOf_33 ?_
  refine zr_istore_n (i := 2) (lv' := [(2, .int (s0 + s1)), (0, .ref p0), (1, .int p1), (3, .int p3)]) C0 dX6_areaOf_34 rfl (by decide) (by first | rfl | simp [zst1, zst2, zcat_rf]) ?_
  refine zr_iinc (lv' := [(3, .int (p3 + 1)), (2, .int (s0 + s1)), (0, .ref p0), (1, .int p1)]) C0 dX6_areaOf_35 3 rfl rfl (by decide) (by first | rfl | simp [zst1, zst2, zcat_rf]) ?_
  refine zr_goto C0 (tgt := 4) dX6_areaOf_38 (by decide) ?_
  refine zr_sub [2, 3, 1, 0] rfl ?_
  exact hk4 _ _ _ _ _ hf
def f_X6_areaOf_l4 (E : zE) : Nat → Nat → Int32 → Int32 → Int32 → zH → Option (Int32 × zH)
  | 0, _, _, _, _, _ => none
  | n + 1, p0, p1, p2, p3, h =>
    if (900 : Int32) ≤ p3 then (
      some (p2, h)
    ) else (
      (gR h p0 1 0).bind fun x2 =>
      (dL h x2 ((250 : Int32) + p3)).bind fun x4 =>
      if x4 = (p1.toInt64) then (
        f_X6_areaOf_b33 E (f_X6_areaOf_l4 E n) p0 p1 p3 p2 (1 : Int32) h
      ) else (
        f_X6_areaOf_b33 E (f_X6_areaOf_l4 E n) p0 p1 p3 p2 (0 : Int32) h
      )
    )
theorem w_X6_areaOf_l4 (C0 : zCx p l e R s m args below meth c D B0 4 "FranchiseLedgerModel" cX6_areaOf E 1 60 (Option.some Jvm.ClassFile.FieldType.int) "areaOf") {r : Int32} {h' : zH} : ∀ (n : Nat) (p0 : Nat) (p1 : Int32) (p2 : Int32) (p3 : Int32) (h : zH), f_X6_areaOf_l4 E n p0 p1 p2 p3 h = some (r, h') → zW p l e R s m args below meth c D B0 4 (zEnd D B0 R below args s (zoI r) h') h 4 [(0, .ref p0), (1, .int p1), (2, .int p2), (3, .int p3)] [] := by
  intro n
  induction n with
  | zero =>
    intro p0 p1 p2 p3 h hf
    unfold f_X6_areaOf_l4 at hf
    cases hf
  | succ n ih =>
    intro p0 p1 p2 p3 h hf
    unfold f_X6_areaOf_l4 at hf
    refine zr_iload_n C0 dX6_areaOf_4 rfl 3 rfl ?_
    refine zr_sipush C0 (v := 900) dX6_areaOf_5 (by decide) ?_
    refine zr_icmp_ge C0 (tgt := 41) dX6_areaOf_8 (by decide) (fun c1 => ?_) (fun c1 => ?_)
    · have hf := zif_t c1 hf
      refine zr_iload_n C0 dX6_areaOf_41 rfl 2 rfl ?_
      refine zretW hf ?_
      exact zr_iret C0 (ty := .int) rfl rfl dX6_areaOf_42 rfl
    · have hf := zif_f c1 hf
      refine zr_iload_n C0 dX6_areaOf_11 rfl 2 rfl ?_
      refine zr_aload_n C0 dX6_areaOf_12 rfl 0 rfl ?_
      obtain ⟨x2, e3, hf⟩ := zbind hf
      refine zr_get C0 fl_X6_9_X6 dX6_areaOf_13 (zgR e3) ?_
      refine zr_sipush C0 (v := 250) dX6_areaOf_16 (by decide) ?_
      refine zr_iload_n C0 dX6_areaOf_19 rfl 3 rfl ?_
      refine zr_iadd C0 dX6_areaOf_20 ?_
      obtain ⟨x4, e5, hf⟩ := zbind hf
      refine zr_lald C0 dX6_areaOf_21 e5 ?_
      refine zr_iload_n C0 dX6_areaOf_22 rfl 1 rfl ?_
      refine zr_i2l C0 dX6_areaOf_23 ?_
      refine zr_lcmp C0 dX6_areaOf_24 ?_
      refine zr_if_ne C0 (tgt := 32) dX6_areaOf_25 (by decide) (fun c6 => ?_) (fun c6 => ?_)
      · have hf := zif_f (zl_ne.mp c6) hf
        refine zr_iconst C0 (v := 0) dX6_areaOf_32 (by decide) ?_
        refine zr_sub [0, 1, 3] rfl ?_
        exact w_X6_areaOf_b33 C0 ih hf
      · have hf := zif_t (zl_nen.mp c6) hf
        refine zr_iconst C0 (v := 1) dX6_areaOf_28 (by decide) ?_
        refine zr_goto C0 (tgt := 33) dX6_areaOf_29 (by decide) ?_
        refine zr_sub [0, 1, 3] rfl ?_
        exact w_X6_areaOf_b33 C0 ih hf
def f_X6_areaOf_b0 (E : zE) (p0 : Nat) (p1 : Int32) (h : zH) : Option (Int32 × zH) :=
  f_X6_areaOf_l4 E E.1 p0 p1 (0 : Int32) (0 : Int32) h
theorem w_X6_areaOf_b0 (C0 : zCx p l e R s m args below meth c D B0 4 "FranchiseLedgerModel" cX6_areaOf E 1 60 (Option.some Jvm.ClassFile.FieldType.int) "areaOf") {r : Int32} {h' : zH} {p0 : Nat} {p1 : Int32} {h : zH} (hf : f_X6_areaOf_b0 E p0 p1 h = some (r, h')) : zW p l e R s m args below meth c D B0 4 (zEnd D B0 R below args s (zoI r) h') h 0 [(0, .ref p0), (1, .int p1)] [] := by
  unfold f_X6_areaOf_b0 at hf
  refine zr_iconst C0 (v := 0) dX6_areaOf_0 (by decide) ?_
  refine zr_istore_n (i := 2) (lv' := [(2, .int (0 : Int32)), (0, .ref p0), (1, .int p1)]) C0 dX6_areaOf_1 rfl (by decide) (by first | rfl | simp [zst1, zst2, zcat_rf]) ?_
  refine zr_iconst C0 (v := 0) dX6_areaOf_2 (by decide) ?_
  refine zr_istore_n (i := 3) (lv' := [(3, .int (0 : Int32)), (2, .int (0 : Int32)), (0, .ref p0), (1, .int p1)]) C0 dX6_areaOf_3 rfl (by decide) (by first | rfl | simp [zst1, zst2, zcat_rf]) ?_
  refine zr_sub [2, 3, 1, 0] rfl ?_
  exact w_X6_areaOf_l4 C0 _ _ _ _ _ _ hf
def f_X6_areaOf (E : zE) (p0 : Nat) (p1 : Int32) (h : zH) : Option (Int32 × zH) := f_X6_areaOf_b0 E p0 p1 h
theorem m_X6_areaOf {l : Launch} (hst : l.stackTraces = false) {D : zD} {B0 : Nat} {E : zE} {p0 : Nat} {p1 : Int32} {h h' : zH} {r : Int32} (hf : f_X6_areaOf E p0 p1 h = some (r, h')) : zMet l yX6_areaOf (ws_ yX6_areaOf cX6_areaOf 4 (Option.some Jvm.ClassFile.FieldType.int)) 1 60 D B0 E [.ref p0, .int p1] h (zoI r) h' := by
  unfold f_X6_areaOf at hf
  refine zMet_of hst (by decide +kernel) rfl rfl (Nat.le_of_ble_eq_true rfl) (fun p e R s m below meth c C0 hno => ?_)
  show zW _ _ _ _ _ _ _ _ _ _ _ _ _ _ _ _ [(0, .ref p0), (1, .int p1)] []
  exact w_X6_areaOf_b0 C0 hf
def f_X6_area_b35 (E : zE) (s0 : Int32) (h : zH) : Option (Int32 × zH) :=
  some (s0, h)
theorem w_X6_area_b35 (C0 : zCx p l e R s m args below meth c D B0 2 "FranchiseLedgerModel" cX6_area E 3 106 (Option.some Jvm.ClassFile.FieldType.int) "area") {r : Int32} {h' : zH} {s0 : Int32} {h : zH} (hf : f_X6_area_b35 E s0 h = some (r, h')) : zW p l e R s m args below meth c D B0 2 (zEnd D B0 R below args s (zoI r) h') h 35 [] [.int s0] := by
  unfold f_X6_area_b35 at hf
  refine zretW hf ?_
  exact zr_iret C0 (ty := .int) rfl rfl dX6_area_35 rfl
def f_X6_area_b19 (E : zE) (p0 : Nat) (p1 : Int32) (s0 : Nat) (s1 : Int32) (h : zH) : Option (Int32 × zH) :=
  (cko h s0 1).bind fun _ =>
  bnd2 (f_X6_throwsIf E s0 s1 (1 : Int32) h) fun x4 h2 =>
  if x4 = 0 then (
    (cko h2 p0 1).bind fun _ =>
    bnd2 (f_X6_areaOf E p0 p1 h2) fun x9 h7 =>
    f_X6_area_b35 E x9 h7
  ) else (
    f_X6_area_b35 E (0 : Int32) h2
  )
theorem w_X6_area_b19 (C0 : zCx p l e R s m args below meth c D B0 2 "FranchiseLedgerModel" cX6_area E 3 106 (Option.some Jvm.ClassFile.FieldType.int) "area") {r : Int32} {h' : zH} {p0 : Nat} {p1 : Int32} {s0 : Nat} {s1 : Int32} {h : zH} (hf : f_X6_area_b19 E p0 p1 s0 s1 h = some (r, h')) : zW p l e R s m args below meth c D B0 2 (zEnd D B0 R below args s (zoI r) h') h 19 [(0, .ref p0), (1, .int p1)] [.int s1, .ref s0] := by
  unfold f_X6_area_b19 at hf
  refine zr_iconst C0 (v := 1) dX6_area_19 (by decide) ?_
  obtain ⟨_, e1, hf⟩ := zbind hf
  obtain ⟨x4, h2, e3, hf⟩ := zbind2 hf
  refine zr_callV_r C0 cv_X6_81_X6 rfl (zcko e1) (m_X6_throwsIf C0.2.2.2.2.2.2.1 e3) (by decide) (by decide) rfl rfl (Nat.le_of_ble_eq_true rfl) dX6_area_20 rfl ?_
  refine zr_if_eq C0 (tgt := 30) dX6_area_23 (by decide) (fun c5 => ?_) (fun c5 => ?_)
  · have hf := zif_t c5 hf
    refine zr_aload_n C0 dX6_area_30 rfl 0 rfl ?_
    refine zr_iload_n C0 dX6_area_31 rfl 1 rfl ?_
    obtain ⟨_, e6, hf⟩ := zbind hf
    obtain ⟨x9, h7, e8, hf⟩ := zbind2 hf
    refine zr_callV_r C0 cv_X6_89_X6 rfl (zcko e6) (m_X6_areaOf C0.2.2.2.2.2.2.1 e8) (by decide) (by decide) rfl rfl (Nat.le_of_ble_eq_true rfl) dX6_area_32 rfl ?_
    refine zr_sub [] rfl ?_
    exact w_X6_area_b35 C0 hf
  · have hf := zif_f c5 hf
    refine zr_iconst C0 (v := 0) dX6_area_26 (by decide) ?_
    refine zr_goto C0 (tgt := 35) dX6_area_27 (by decide) ?_
    refine zr_sub [] rfl ?_
    exact w_X6_area_b35 C0 hf
def f_X6_area_b0 (E : zE) (p0 : Nat) (p1 : Int32) (h : zH) : Option (Int32 × zH) :=
  (pF h p0 1 2 (.int (0 : Int32))).bind fun h1 =>
  (cko h1 p0 1).bind fun _ =>
  bnd2 (f_X6_isFranchisee E p0 p1 h1) fun x6 h4 =>
  if x6 = 0 then (
    f_X6_area_b19 E p0 p1 p0 (1 : Int32) h4
  ) else (
    f_X6_area_b19 E p0 p1 p0 (0 : Int32) h4
  )
theorem w_X6_area_b0 (C0 : zCx p l e R s m args below meth c D B0 2 "FranchiseLedgerModel" cX6_area E 3 106 (Option.some Jvm.ClassFile.FieldType.int) "area") {r : Int32} {h' : zH} {p0 : Nat} {p1 : Int32} {h : zH} (hf : f_X6_area_b0 E p0 p1 h = some (r, h')) : zW p l e R s m args below meth c D B0 2 (zEnd D B0 R below args s (zoI r) h') h 0 [(0, .ref p0), (1, .int p1)] [] := by
  unfold f_X6_area_b0 at hf
  refine zr_aload_n C0 dX6_area_0 rfl 0 rfl ?_
  refine zr_iconst C0 (v := 0) dX6_area_1 (by decide) ?_
  obtain ⟨h1, e2, hf⟩ := zbind hf
  refine zr_put C0 pl_X6_50_X6 dX6_area_2 (fun h => by cases h) rfl rfl e2 ?_
  refine zr_aload_n C0 dX6_area_5 rfl 0 rfl ?_
  refine zr_aload_n C0 dX6_area_6 rfl 0 rfl ?_
  refine zr_iload_n C0 dX6_area_7 rfl 1 rfl ?_
  obtain ⟨_, e3, hf⟩ := zbind hf
  obtain ⟨x6, h4, e5, hf⟩ := zbind2 hf
  refine zr_callV_r C0 cv_X6_85_X6 rfl (zcko e3) (m_X6_isFranchisee C0.2.2.2.2.2.2.1 e5) (by decide) (by decide) rfl rfl (Nat.le_of_ble_eq_true rfl) dX6_area_8 rfl ?_
  refine zr_if_ne C0 (tgt := 18) dX6_area_11 (by decide) (fun c7 => ?_) (fun c7 => ?_)
  · have hf := zif_f c7 hf
    refine zr_iconst C0 (v := 0) dX6_area_18 (by decide) ?_
    exact w_X6_area_b19 C0 hf
  · have hf := zif_t c7 hf
    refine zr_iconst C0 (v := 1) dX6_area_14 (by decide) ?_
    refine zr_goto C0 (tgt := 19) dX6_area_15 (by decide) ?_
    exact w_X6_area_b19 C0 hf
def f_X6_area (E : zE) (p0 : Nat) (p1 : Int32) (h : zH) : Option (Int32 × zH) := f_X6_area_b0 E p0 p1 h
theorem m_X6_area {l : Launch} (hst : l.stackTraces = false) {D : zD} {B0 : Nat} {E : zE} {p0 : Nat} {p1 : Int32} {h h' : zH} {r : Int32} (hf : f_X6_area E p0 p1 h = some (r, h')) : zMet l yX6_area (ws_ yX6_area cX6_area 2 (Option.some Jvm.ClassFile.FieldType.int)) 3 106 D B0 E [.ref p0, .int p1] h (zoI r) h' := by
  unfold f_X6_area at hf
  refine zMet_of hst (by decide +kernel) rfl rfl (Nat.le_of_ble_eq_true rfl) (fun p e R s m below meth c C0 hno => ?_)
  show zW _ _ _ _ _ _ _ _ _ _ _ _ _ _ _ _ [(0, .ref p0), (1, .int p1)] []
  exact w_X6_area_b0 C0 hf
def f_X6_owns_b23 (E : zE) (s0 : Int32) (h : zH) : Option (Int32 × zH) :=
  (zgd .boolean s0).bind fun _ =>
  some (s0, h)
theorem w_X6_owns_b23 (C0 : zCx p l e R s m args below meth c D B0 4 "FranchiseLedgerModel" cX6_owns E 3 106 (Option.some Jvm.ClassFile.FieldType.boolean) "owns") {r : Int32} {h' : zH} {s0 : Int32} {h : zH} (hf : f_X6_owns_b23 E s0 h = some (r, h')) : zW p l e R s m args below meth c D B0 4 (zEnd D B0 R below args s (zoI r) h') h 23 [] [.int s0] := by
  unfold f_X6_owns_b23 at hf
  obtain ⟨_, e1, hf⟩ := zbind hf
  refine zretW hf ?_
  exact zr_iret C0 (ty := .boolean) rfl (zgd_n e1) dX6_owns_23 rfl
def f_X6_owns_b22 (E : zE) (h : zH) : Option (Int32 × zH) :=
  f_X6_owns_b23 E (0 : Int32) h
theorem w_X6_owns_b22 (C0 : zCx p l e R s m args below meth c D B0 4 "FranchiseLedgerModel" cX6_owns E 3 106 (Option.some Jvm.ClassFile.FieldType.boolean) "owns") {r : Int32} {h' : zH} {h : zH} (hf : f_X6_owns_b22 E  h = some (r, h')) : zW p l e R s m args below meth c D B0 4 (zEnd D B0 R below args s (zoI r) h') h 22 [] [] := by
  unfold f_X6_owns_b22 at hf
  refine zr_iconst C0 (v := 0) dX6_owns_22 (by decide) ?_
  exact w_X6_owns_b23 C0 hf
def f_X6_owns_b0 (E : zE) (p0 : Nat) (p1 : Int32) (p2 : Int32) (p3 : Int32) (h : zH) : Option (Int32 × zH) :=
  bnd2 (f_X6_isCell E p2 p3 h) fun x3 h1 =>
  if x3 = 0 then (
    f_X6_owns_b22 E  h1
  ) else (
    (cko h1 p0 1).bind fun _ =>
    bnd2 (f_X6_ownerOf E p0 p2 p3 h1) fun x8 h6 =>
    if x8 = p1 then (
      f_X6_owns_b23 E (1 : Int32) h6
    ) else (
      f_X6_owns_b22 E  h6
    )
  )
theorem w_X6_owns_b0 (C0 : zCx p l e R s m args below meth c D B0 4 "FranchiseLedgerModel" cX6_owns E 3 106 (Option.some Jvm.ClassFile.FieldType.boolean) "owns") {r : Int32} {h' : zH} {p0 : Nat} {p1 : Int32} {p2 : Int32} {p3 : Int32} {h : zH} (hf : f_X6_owns_b0 E p0 p1 p2 p3 h = some (r, h')) : zW p l e R s m args below meth c D B0 4 (zEnd D B0 R below args s (zoI r) h') h 0 [(0, .ref p0), (1, .int p1), (2, .int p2), (3, .int p3)] [] := by
  unfold f_X6_owns_b0 at hf
  refine zr_iload_n C0 dX6_owns_0 rfl 2 rfl ?_
  refine zr_iload_n C0 dX6_owns_1 rfl 3 rfl ?_
  obtain ⟨x3, h1, e2, hf⟩ := zbind2 hf
  refine zr_callS_r C0 cv_X6_67 (m_X6_isCell C0.2.2.2.2.2.2.1 e2) (by decide) (by decide) rfl rfl (Nat.le_of_ble_eq_true rfl) dX6_owns_2 rfl ?_
  refine zr_if_eq C0 (tgt := 22) dX6_owns_5 (by decide) (fun c4 => ?_) (fun c4 => ?_)
  · have hf := zif_t c4 hf
    refine zr_sub [] rfl ?_
    exact w_X6_owns_b22 C0 hf
  · have hf := zif_f c4 hf
    refine zr_aload_n C0 dX6_owns_8 rfl 0 rfl ?_
    refine zr_iload_n C0 dX6_owns_9 rfl 2 rfl ?_
    refine zr_iload_n C0 dX6_owns_10 rfl 3 rfl ?_
    obtain ⟨_, e5, hf⟩ := zbind hf
    obtain ⟨x8, h6, e7, hf⟩ := zbind2 hf
    refine zr_callV_r C0 cv_X6_71_X6 rfl (zcko e5) (m_X6_ownerOf C0.2.2.2.2.2.2.1 e7) (by decide) (by decide) rfl rfl (Nat.le_of_ble_eq_true rfl) dX6_owns_11 rfl ?_
    refine zr_iload_n C0 dX6_owns_14 rfl 1 rfl ?_
    refine zr_icmp_ne C0 (tgt := 22) dX6_owns_15 (by decide) (fun c9 => ?_) (fun c9 => ?_)
    · have hf := zif_f c9 hf
      refine zr_sub [] rfl ?_
      exact w_X6_owns_b22 C0 hf
    · have hf := zif_t c9 hf
      refine zr_iconst C0 (v := 1) dX6_owns_18 (by decide) ?_
      refine zr_goto C0 (tgt := 23) dX6_owns_19 (by decide) ?_
      refine zr_sub [] rfl ?_
      exact w_X6_owns_b23 C0 hf
def f_X6_owns (E : zE) (p0 : Nat) (p1 : Int32) (p2 : Int32) (p3 : Int32) (h : zH) : Option (Int32 × zH) := f_X6_owns_b0 E p0 p1 p2 p3 h
theorem m_X6_owns {l : Launch} (hst : l.stackTraces = false) {D : zD} {B0 : Nat} {E : zE} {p0 : Nat} {p1 : Int32} {p2 : Int32} {p3 : Int32} {h h' : zH} {r : Int32} (hf : f_X6_owns E p0 p1 p2 p3 h = some (r, h')) : zMet l yX6_owns (ws_ yX6_owns cX6_owns 4 (Option.some Jvm.ClassFile.FieldType.boolean)) 3 106 D B0 E [.ref p0, .int p1, .int p2, .int p3] h (zoI r) h' := by
  unfold f_X6_owns at hf
  refine zMet_of hst (by decide +kernel) rfl rfl (Nat.le_of_ble_eq_true rfl) (fun p e R s m below meth c C0 hno => ?_)
  show zW _ _ _ _ _ _ _ _ _ _ _ _ _ _ _ _ [(0, .ref p0), (1, .int p1), (2, .int p2), (3, .int p3)] []
  exact w_X6_owns_b0 C0 hf
def f_X6_neighboursOf_b70 (E : zE) (s0 : Int32) (s1 : Int32) (h : zH) : Option (Int32 × zH) :=
  some ((s0 + s1), h)
theorem w_X6_neighboursOf_b70 (C0 : zCx p l e R s m args below meth c D B0 4 "FranchiseLedgerModel" cX6_neighboursOf E 4 129 (Option.some Jvm.ClassFile.FieldType.int) "neighboursOf") {r : Int32} {h' : zH} {s0 : Int32} {s1 : Int32} {h : zH} (hf : f_X6_neighboursOf_b70 E s0 s1 h = some (r, h')) : zW p l e R s m args below meth c D B0 4 (zEnd D B0 R below args s (zoI r) h') h 70 [] [.int s1, .int s0] := by
  unfold f_X6_neighboursOf_b70 at hf
  refine zr_iadd C0 dX6_neighboursOf_70 ?_
  refine zretW hf ?_
  exact zr_iret C0 (ty := .int) rfl rfl dX6_neighboursOf_71 rfl
def f_X6_neighboursOf_b52 (E : zE) (p0 : Nat) (p1 : Int32) (p2 : Int32) (p3 : Int32) (s0 : Int32) (s1 : Int32) (h : zH) : Option (Int32 × zH) :=
  (cko h p0 1).bind fun _ =>
  bnd2 (f_X6_owns E p0 p1 p2 (p3 + (1 : Int32)) h) fun x4 h2 =>
  if x4 = 0 then (
    f_X6_neighboursOf_b70 E (s0 + s1) (0 : Int32) h2
  ) else (
    f_X6_neighboursOf_b70 E (s0 + s1) (1 : Int32) h2
  )
theorem w_X6_neighboursOf_b52 (C0 : zCx p l e R s m args below meth c D B0 4 "FranchiseLedgerModel" cX6_neighboursOf E 4 129 (Option.some Jvm.ClassFile.FieldType.int) "neighboursOf") {r : Int32} {h' : zH} {p0 : Nat} {p1 : Int32} {p2 : Int32} {p3 : Int32} {s0 : Int32} {s1 : Int32} {h : zH} (hf : f_X6_neighboursOf_b52 E p0 p1 p2 p3 s0 s1 h = some (r, h')) : zW p l e R s m args below meth c D B0 4 (zEnd D B0 R below args s (zoI r) h') h 52 [(0, .ref p0), (1, .int p1), (2, .int p2), (3, .int p3)] [.int s1, .int s0] := by
  unfold f_X6_neighboursOf_b52 at hf
  refine zr_iadd C0 dX6_neighboursOf_52 ?_
  refine zr_aload_n C0 dX6_neighboursOf_53 rfl 0 rfl ?_
  refine zr_iload_n C0 dX6_neighboursOf_54 rfl 1 rfl ?_
  refine zr_iload_n C0 dX6_neighboursOf_55 rfl 2 rfl ?_
  refine zr_iload_n C0 dX6_neighboursOf_56 rfl 3 rfl ?_
  refine zr_iconst C0 (v := 1) dX6_neighboursOf_57 (by decide) ?_
  refine zr_iadd C0 dX6_neighboursOf_58 ?_
  obtain ⟨_, e1, hf⟩ := zbind hf
  obtain ⟨x4, h2, e3, hf⟩ := zbind2 hf
  refine zr_callV_r C0 cv_X6_93_X6 rfl (zcko e1) (m_X6_owns C0.2.2.2.2.2.2.1 e3) (by decide) (by decide) rfl rfl (Nat.le_of_ble_eq_true rfl) dX6_neighboursOf_59 rfl ?_
  refine zr_if_eq C0 (tgt := 69) dX6_neighboursOf_62 (by decide) (fun c5 => ?_) (fun c5 => ?_)
  · have hf := zif_t c5 hf
    refine zr_iconst C0 (v := 0) dX6_neighboursOf_69 (by decide) ?_
    refine zr_sub [] rfl ?_
    exact w_X6_neighboursOf_b70 C0 hf
  · have hf := zif_f c5 hf
    refine zr_iconst C0 (v := 1) dX6_neighboursOf_65 (by decide) ?_
    refine zr_goto C0 (tgt := 70) dX6_neighboursOf_66 (by decide) ?_
    refine zr_sub [] rfl ?_
    exact w_X6_neighboursOf_b70 C0 hf
def f_X6_neighboursOf_b34 (E : zE) (p0 : Nat) (p1 : Int32) (p2 : Int32) (p3 : Int32) (s0 : Int32) (s1 : Int32) (h : zH) : Option (Int32 × zH) :=
  (cko h p0 1).bind fun _ =>
  bnd2 (f_X6_owns E p0 p1 p2 (p3 - (1 : Int32)) h) fun x4 h2 =>
  if x4 = 0 then (
    f_X6_neighboursOf_b52 E p0 p1 p2 p3 (s0 + s1) (0 : Int32) h2
  ) else (
    f_X6_neighboursOf_b52 E p0 p1 p2 p3 (s0 + s1) (1 : Int32) h2
  )
theorem w_X6_neighboursOf_b34 (C0 : zCx p l e R s m args below meth c D B0 4 "FranchiseLedgerModel" cX6_neighboursOf E 4 129 (Option.some Jvm.ClassFile.FieldType.int) "neighboursOf") {r : Int32} {h' : zH} {p0 : Nat} {p1 : Int32} {p2 : Int32} {p3 : Int32} {s0 : Int32} {s1 : Int32} {h : zH} (hf : f_X6_neighboursOf_b34 E p0 p1 p2 p3 s0 s1 h = some (r, h')) : zW p l e R s m args below meth c D B0 4 (zEnd D B0 R below args s (zoI r) h') h 34 [(0, .ref p0), (1, .int p1), (2, .int p2), (3, .int p3)] [.int s1, .int s0] := by
  unfold f_X6_neighboursOf_b34 at hf
  refine zr_iadd C0 dX6_neighboursOf_34 ?_
  refine zr_aload_n C0 dX6_neighboursOf_35 rfl 0 rfl ?_
  refine zr_iload_n C0 dX6_neighboursOf_36 rfl 1 rfl ?_
  refine zr_iload_n C0 dX6_neighboursOf_37 rfl 2 rfl ?_
  refine zr_iload_n C0 dX6_neighboursOf_38 rfl 3 rfl ?_
  refine zr_iconst C0 (v := 1) dX6_neighboursOf_39 (by decide) ?_
  refine zr_isub C0 dX6_neighboursOf_40 ?_
  obtain ⟨_, e1, hf⟩ := zbind hf
  obtain ⟨x4, h2, e3, hf⟩ := zbind2 hf
  refine zr_callV_r C0 cv_X6_93_X6 rfl (zcko e1) (m_X6_owns C0.2.2.2.2.2.2.1 e3) (by decide) (by decide) rfl rfl (Nat.le_of_ble_eq_true rfl) dX6_neighboursOf_41 rfl ?_
  refine zr_if_eq C0 (tgt := 51) dX6_neighboursOf_44 (by decide) (fun c5 => ?_) (fun c5 => ?_)
  · have hf := zif_t c5 hf
    refine zr_iconst C0 (v := 0) dX6_neighboursOf_51 (by decide) ?_
    exact w_X6_neighboursOf_b52 C0 hf
  · have hf := zif_f c5 hf
    refine zr_iconst C0 (v := 1) dX6_neighboursOf_47 (by decide) ?_
    refine zr_goto C0 (tgt := 52) dX6_neighboursOf_48 (by decide) ?_
    exact w_X6_neighboursOf_b52 C0 hf
def f_X6_neighboursOf_b17 (E : zE) (p0 : Nat) (p1 : Int32) (p2 : Int32) (p3 : Int32) (s0 : Int32) (h : zH) : Option (Int32 × zH) :=
  (cko h p0 1).bind fun _ =>
  bnd2 (f_X6_owns E p0 p1 (p2 + (1 : Int32)) p3 h) fun x4 h2 =>
  if x4 = 0 then (
    f_X6_neighboursOf_b34 E p0 p1 p2 p3 s0 (0 : Int32) h2
  ) else (
    f_X6_neighboursOf_b34 E p0 p1 p2 p3 s0 (1 : Int32) h2
  )
theorem w_X6_neighboursOf_b17 (C0 : zCx p l e R s m args below meth c D B0 4 "FranchiseLedgerModel" cX6_neighboursOf E 4 129 (Option.some Jvm.ClassFile.FieldType.int) "neighboursOf") {r : Int32} {h' : zH} {p0 : Nat} {p1 : Int32} {p2 : Int32} {p3 : Int32} {s0 : Int32} {h : zH} (hf : f_X6_neighboursOf_b17 E p0 p1 p2 p3 s0 h = some (r, h')) : zW p l e R s m args below meth c D B0 4 (zEnd D B0 R below args s (zoI r) h') h 17 [(0, .ref p0), (1, .int p1), (2, .int p2), (3, .int p3)] [.int s0] := by
  unfold f_X6_neighboursOf_b17 at hf
  refine zr_aload_n C0 dX6_neighboursOf_17 rfl 0 rfl ?_
  refine zr_iload_n C0 dX6_neighboursOf_18 rfl 1 rfl ?_
  refine zr_iload_n C0 dX6_neighboursOf_19 rfl 2 rfl ?_
  refine zr_iconst C0 (v := 1) dX6_neighboursOf_20 (by decide) ?_
  refine zr_iadd C0 dX6_neighboursOf_21 ?_
  refine zr_iload_n C0 dX6_neighboursOf_22 rfl 3 rfl ?_
  obtain ⟨_, e1, hf⟩ := zbind hf
  obtain ⟨x4, h2, e3, hf⟩ := zbind2 hf
  refine zr_callV_r C0 cv_X6_93_X6 rfl (zcko e1) (m_X6_owns C0.2.2.2.2.2.2.1 e3) (by decide) (by decide) rfl rfl (Nat.le_of_ble_eq_true rfl) dX6_neighboursOf_23 rfl ?_
  refine zr_if_eq C0 (tgt := 33) dX6_neighboursOf_26 (by decide) (fun c5 => ?_) (fun c5 => ?_)
  · have hf := zif_t c5 hf
    refine zr_iconst C0 (v := 0) dX6_neighboursOf_33 (by decide) ?_
    exact w_X6_neighboursOf_b34 C0 hf
  · have hf := zif_f c5 hf
    refine zr_iconst C0 (v := 1) dX6_neighboursOf_29 (by decide) ?_
    refine zr_goto C0 (tgt := 34) dX6_neighboursOf_30 (by decide) ?_
    exact w_X6_neighboursOf_b34 C0 hf
def f_X6_neighboursOf_b0 (E : zE) (p0 : Nat) (p1 : Int32) (p2 : Int32) (p3 : Int32) (h : zH) : Option (Int32 × zH) :=
  (cko h p0 1).bind fun _ =>
  bnd2 (f_X6_owns E p0 p1 (p2 - (1 : Int32)) p3 h) fun x4 h2 =>
  if x4 = 0 then (
    f_X6_neighboursOf_b17 E p0 p1 p2 p3 (0 : Int32) h2
  ) else (
    f_X6_neighboursOf_b17 E p0 p1 p2 p3 (1 : Int32) h2
  )
theorem w_X6_neighboursOf_b0 (C0 : zCx p l e R s m args below meth c D B0 4 "FranchiseLedgerModel" cX6_neighboursOf E 4 129 (Option.some Jvm.ClassFile.FieldType.int) "neighboursOf") {r : Int32} {h' : zH} {p0 : Nat} {p1 : Int32} {p2 : Int32} {p3 : Int32} {h : zH} (hf : f_X6_neighboursOf_b0 E p0 p1 p2 p3 h = some (r, h')) : zW p l e R s m args below meth c D B0 4 (zEnd D B0 R below args s (zoI r) h') h 0 [(0, .ref p0), (1, .int p1), (2, .int p2), (3, .int p3)] [] := by
  unfold f_X6_neighboursOf_b0 at hf
  refine zr_aload_n C0 dX6_neighboursOf_0 rfl 0 rfl ?_
  refine zr_iload_n C0 dX6_neighboursOf_1 rfl 1 rfl ?_
  refine zr_iload_n C0 dX6_neighboursOf_2 rfl 2 rfl ?_
  refine zr_iconst C0 (v := 1) dX6_neighboursOf_3 (by decide) ?_
  refine zr_isub C0 dX6_neighboursOf_4 ?_
  refine zr_iload_n C0 dX6_neighboursOf_5 rfl 3 rfl ?_
  obtain ⟨_, e1, hf⟩ := zbind hf
  obtain ⟨x4, h2, e3, hf⟩ := zbind2 hf
  refine zr_callV_r C0 cv_X6_93_X6 rfl (zcko e1) (m_X6_owns C0.2.2.2.2.2.2.1 e3) (by decide) (by decide) rfl rfl (Nat.le_of_ble_eq_true rfl) dX6_neighboursOf_6 rfl ?_
  refine zr_if_eq C0 (tgt := 16) dX6_neighboursOf_9 (by decide) (fun c5 => ?_) (fun c5 => ?_)
  · have hf := zif_t c5 hf
    refine zr_iconst C0 (v := 0) dX6_neighboursOf_16 (by decide) ?_
    exact w_X6_neighboursOf_b17 C0 hf
  · have hf := zif_f c5 hf
    refine zr_iconst C0 (v := 1) dX6_neighboursOf_12 (by decide) ?_
    refine zr_goto C0 (tgt := 17) dX6_neighboursOf_13 (by decide) ?_
    exact w_X6_neighboursOf_b17 C0 hf
def f_X6_neighboursOf (E : zE) (p0 : Nat) (p1 : Int32) (p2 : Int32) (p3 : Int32) (h : zH) : Option (Int32 × zH) := f_X6_neighboursOf_b0 E p0 p1 p2 p3 h
theorem m_X6_neighboursOf {l : Launch} (hst : l.stackTraces = false) {D : zD} {B0 : Nat} {E : zE} {p0 : Nat} {p1 : Int32} {p2 : Int32} {p3 : Int32} {h h' : zH} {r : Int32} (hf : f_X6_neighboursOf E p0 p1 p2 p3 h = some (r, h')) : zMet l yX6_neighboursOf (ws_ yX6_neighboursOf cX6_neighboursOf 4 (Option.some Jvm.ClassFile.FieldType.int)) 4 129 D B0 E [.ref p0, .int p1, .int p2, .int p3] h (zoI r) h' := by
  unfold f_X6_neighboursOf at hf
  refine zMet_of hst (by decide +kernel) rfl rfl (Nat.le_of_ble_eq_true rfl) (fun p e R s m below meth c C0 hno => ?_)
  show zW _ _ _ _ _ _ _ _ _ _ _ _ _ _ _ _ [(0, .ref p0), (1, .int p1), (2, .int p2), (3, .int p3)] []
  exact w_X6_neighboursOf_b0 C0 hf
def f_X6_perimeter_b73 (E : zE) (k32 : Nat → Int32 → Int32 → Int32 → zH → Option (Int32 × zH)) (p0 : Nat) (p1 : Int32) (p2 : Int32) (p3 : Int32) (h : zH) : Option (Int32 × zH) :=
  k32 p0 p1 p2 (p3 + 1) h
theorem w_X6_perimeter_b73 (C0 : zCx p l e R s m args below meth c D B0 4 "FranchiseLedgerModel" cX6_perimeter E 5 152 (Option.some Jvm.ClassFile.FieldType.int) "perimeter") {r : Int32} {h' : zH} {k32 : Nat → Int32 → Int32 → Int32 → zH → Option (Int32 × zH)} (hk32 : ∀ (p0 : Nat) (p1 : Int32) (p2 : Int32) (p3 : Int32) (h : zH), k32 p0 p1 p2 p3 h = some (r, h') → zW p l e R s m args below meth c D B0 4 (zEnd D B0 R below args s (zoI r) h') h 32 [(0, .ref p0), (1, .int p1), (2, .int p2), (3, .int p3)] []) {p0 : Nat} {p1 : Int32} {p2 : Int32} {p3 : Int32} {h : zH} (hf : f_X6_perimeter_b73 E k32 p0 p1 p2 p3 h = some (r, h')) : zW p l e R s m args below meth c D B0 4 (zEnd D B0 R below args s (zoI r) h') h 73 [(0, .ref p0), (1, .int p1), (2, .int p2), (3, .int p3)] [] := by
  unfold f_X6_perimeter_b73 at hf
  refine zr_iinc (lv' := [(3, .int (p3 + 1)), (0, .ref p0), (1, .int p1), (2, .int p2)]) C0 dX6_perimeter_73 3 rfl rfl (by decide) (by first | rfl | simp [zst1, zst2, zcat_rf]) ?_
  refine zr_goto C0 (tgt := 32) dX6_perimeter_76 (by decide) ?_
  refine zr_sub [1, 2, 3, 0] rfl ?_
  exact hk32 _ _ _ _ _ hf
def f_X6_perimeter_l32 (E : zE) : Nat → Nat → Int32 → Int32 → Int32 → zH → Option (Int32 × zH)
  | 0, _, _, _, _, _ => none
  | n + 1, p0, p1, p2, p3, h =>
    if (900 : Int32) ≤ p3 then (
      some (p2, h)
    ) else (
      (gR h p0 1 0).bind fun x2 =>
      (dL h x2 ((250 : Int32) + p3)).bind fun x4 =>
      if x4 = (p1.toInt64) then (
        (cko h p0 1).bind fun _ =>
        bnd2 (f_X6_neighboursOf E p0 p1 (p3 - p3 / (30 : Int32) * (30 : Int32)) (p3 / (30 : Int32)) h) fun x10 h8 =>
        f_X6_perimeter_b73 E (f_X6_perimeter_l32 E n) p0 p1 (p2 + ((4 : Int32) - x10)) p3 h8
      ) else (
        f_X6_perimeter_b73 E (f_X6_perimeter_l32 E n) p0 p1 p2 p3 h
      )
    )
theorem w_X6_perimeter_l32 (C0 : zCx p l e R s m args below meth c D B0 4 "FranchiseLedgerModel" cX6_perimeter E 5 152 (Option.some Jvm.ClassFile.FieldType.int) "perimeter") {r : Int32} {h' : zH} : ∀ (n : Nat) (p0 : Nat) (p1 : Int32) (p2 : Int32) (p3 : Int32) (h : zH), f_X6_perimeter_l32 E n p0 p1 p2 p3 h = some (r, h') → zW p l e R s m args below meth c D B0 4 (zEnd D B0 R below args s (zoI r) h') h 32 [(0, .ref p0), (1, .int p1), (2, .int p2), (3, .int p3)] [] := by
  intro n
  induction n with
  | zero =>
    intro p0 p1 p2 p3 h hf
    unfold f_X6_perimeter_l32 at hf
    cases hf
  | succ n ih =>
    intro p0 p1 p2 p3 h hf
    unfold f_X6_perimeter_l32 at hf
    refine zr_iload_n C0 dX6_perimeter_32 rfl 3 rfl ?_
    refine zr_sipush C0 (v := 900) dX6_perimeter_33 (by decide) ?_
    refine zr_icmp_ge C0 (tgt := 79) dX6_perimeter_36 (by decide) (fun c1 => ?_) (fun c1 => ?_)
    · have hf := zif_t c1 hf
      refine zr_iload_n C0 dX6_perimeter_79 rfl 2 rfl ?_
      refine zretW hf ?_
      exact zr_iret C0 (ty := .int) rfl rfl dX6_perimeter_80 rfl
    · have hf := zif_f c1 hf
      refine zr_aload_n C0 dX6_perimeter_39 rfl 0 rfl ?_
      obtain ⟨x2, e3, hf⟩ := zbind hf
      refine zr_get C0 fl_X6_9_X6 dX6_perimeter_40 (zgR e3) ?_
      refine zr_sipush C0 (v := 250) dX6_perimeter_43 (by decide) ?_
      refine zr_iload_n C0 dX6_perimeter_46 rfl 3 rfl ?_
      refine zr_iadd C0 dX6_perimeter_47 ?_
      obtain ⟨x4, e5, hf⟩ := zbind hf
      refine zr_lald C0 dX6_perimeter_48 e5 ?_
      refine zr_iload_n C0 dX6_perimeter_49 rfl 1 rfl ?_
      refine zr_i2l C0 dX6_perimeter_50 ?_
      refine zr_lcmp C0 dX6_perimeter_51 ?_
      refine zr_if_ne C0 (tgt := 73) dX6_perimeter_52 (by decide) (fun c6 => ?_) (fun c6 => ?_)
      · have hf := zif_f (zl_ne.mp c6) hf
        exact w_X6_perimeter_b73 C0 ih hf
      · have hf := zif_t (zl_nen.mp c6) hf
        refine zr_iload_n C0 dX6_perimeter_55 rfl 2 rfl ?_
        refine zr_iconst C0 (v := 4) dX6_perimeter_56 (by decide) ?_
        refine zr_aload_n C0 dX6_perimeter_57 rfl 0 rfl ?_
        refine zr_iload_n C0 dX6_perimeter_58 rfl 1 rfl ?_
        refine zr_iload_n C0 dX6_perimeter_59 rfl 3 rfl ?_
        refine zr_bipush C0 (v := 30) dX6_perimeter_60 (by decide) ?_
        refine zr_irem C0 dX6_perimeter_62 (by decide) ?_
        refine zr_iload_n C0 dX6_perimeter_63 rfl 3 rfl ?_
        refine zr_bipush C0 (v := 30) dX6_perimeter_64 (by decide) ?_
        refine zr_idiv C0 dX6_perimeter_66 (by decide) ?_
        obtain ⟨_, e7, hf⟩ := zbind hf
        obtain ⟨x10, h8, e9, hf⟩ := zbind2 hf
        refine zr_callV_r C0 cv_X6_97_X6 rfl (zcko e7) (m_X6_neighboursOf C0.2.2.2.2.2.2.1 e9) (by decide) (by decide) rfl rfl (Nat.le_of_ble_eq_true rfl) dX6_perimeter_67 rfl ?_
        refine zr_isub C0 dX6_perimeter_70 ?_
        refine zr_iadd C0 dX6_perimeter_71 ?_
        refine zr_istore_n (i := 2) (lv' := [(2, .int (p2 + ((4 : Int32) - x10))), (0, .ref p0), (1, .int p1), (3, .int p3)]) C0 dX6_perimeter_72 rfl (by decide) (by first | rfl | simp [zst1, zst2, zcat_rf]) ?_
        refine zr_sub [1, 2, 0, 3] rfl ?_
        exact w_X6_perimeter_b73 C0 ih hf
def f_X6_perimeter_b19 (E : zE) (p0 : Nat) (p1 : Int32) (s0 : Nat) (s1 : Int32) (h : zH) : Option (Int32 × zH) :=
  (cko h s0 1).bind fun _ =>
  bnd2 (f_X6_throwsIf E s0 s1 (1 : Int32) h) fun x4 h2 =>
  if x4 = 0 then (
    f_X6_perimeter_l32 E E.1 p0 p1 (0 : Int32) (0 : Int32) h2
  ) else (
    some ((0 : Int32), h2)
  )
theorem w_X6_perimeter_b19 (C0 : zCx p l e R s m args below meth c D B0 4 "FranchiseLedgerModel" cX6_perimeter E 5 152 (Option.some Jvm.ClassFile.FieldType.int) "perimeter") {r : Int32} {h' : zH} {p0 : Nat} {p1 : Int32} {s0 : Nat} {s1 : Int32} {h : zH} (hf : f_X6_perimeter_b19 E p0 p1 s0 s1 h = some (r, h')) : zW p l e R s m args below meth c D B0 4 (zEnd D B0 R below args s (zoI r) h') h 19 [(0, .ref p0), (1, .int p1)] [.int s1, .ref s0] := by
  unfold f_X6_perimeter_b19 at hf
  refine zr_iconst C0 (v := 1) dX6_perimeter_19 (by decide) ?_
  obtain ⟨_, e1, hf⟩ := zbind hf
  obtain ⟨x4, h2, e3, hf⟩ := zbind2 hf
  refine zr_callV_r C0 cv_X6_81_X6 rfl (zcko e1) (m_X6_throwsIf C0.2.2.2.2.2.2.1 e3) (by decide) (by decide) rfl rfl (Nat.le_of_ble_eq_true rfl) dX6_perimeter_20 rfl ?_
  refine zr_if_eq C0 (tgt := 28) dX6_perimeter_23 (by decide) (fun c5 => ?_) (fun c5 => ?_)
  · have hf := zif_t c5 hf
    refine zr_iconst C0 (v := 0) dX6_perimeter_28 (by decide) ?_
    refine zr_istore_n (i := 2) (lv' := [(2, .int (0 : Int32)), (0, .ref p0), (1, .int p1)]) C0 dX6_perimeter_29 rfl (by decide) (by first | rfl | simp [zst1, zst2, zcat_rf]) ?_
    refine zr_iconst C0 (v := 0) dX6_perimeter_30 (by decide) ?_
    refine zr_istore_n (i := 3) (lv' := [(3, .int (0 : Int32)), (2, .int (0 : Int32)), (0, .ref p0), (1, .int p1)]) C0 dX6_perimeter_31 rfl (by decide) (by first | rfl | simp [zst1, zst2, zcat_rf]) ?_
    refine zr_sub [2, 3, 1, 0] rfl ?_
    exact w_X6_perimeter_l32 C0 _ _ _ _ _ _ hf
  · have hf := zif_f c5 hf
    refine zr_iconst C0 (v := 0) dX6_perimeter_26 (by decide) ?_
    refine zretW hf ?_
    exact zr_iret C0 (ty := .int) rfl rfl dX6_perimeter_27 rfl
def f_X6_perimeter_b0 (E : zE) (p0 : Nat) (p1 : Int32) (h : zH) : Option (Int32 × zH) :=
  (pF h p0 1 2 (.int (0 : Int32))).bind fun h1 =>
  (cko h1 p0 1).bind fun _ =>
  bnd2 (f_X6_isFranchisee E p0 p1 h1) fun x6 h4 =>
  if x6 = 0 then (
    f_X6_perimeter_b19 E p0 p1 p0 (1 : Int32) h4
  ) else (
    f_X6_perimeter_b19 E p0 p1 p0 (0 : Int32) h4
  )
theorem w_X6_perimeter_b0 (C0 : zCx p l e R s m args below meth c D B0 4 "FranchiseLedgerModel" cX6_perimeter E 5 152 (Option.some Jvm.ClassFile.FieldType.int) "perimeter") {r : Int32} {h' : zH} {p0 : Nat} {p1 : Int32} {h : zH} (hf : f_X6_perimeter_b0 E p0 p1 h = some (r, h')) : zW p l e R s m args below meth c D B0 4 (zEnd D B0 R below args s (zoI r) h') h 0 [(0, .ref p0), (1, .int p1)] [] := by
  unfold f_X6_perimeter_b0 at hf
  refine zr_aload_n C0 dX6_perimeter_0 rfl 0 rfl ?_
  refine zr_iconst C0 (v := 0) dX6_perimeter_1 (by decide) ?_
  obtain ⟨h1, e2, hf⟩ := zbind hf
  refine zr_put C0 pl_X6_50_X6 dX6_perimeter_2 (fun h => by cases h) rfl rfl e2 ?_
  refine zr_aload_n C0 dX6_perimeter_5 rfl 0 rfl ?_
  refine zr_aload_n C0 dX6_perimeter_6 rfl 0 rfl ?_
  refine zr_iload_n C0 dX6_perimeter_7 rfl 1 rfl ?_
  obtain ⟨_, e3, hf⟩ := zbind hf
  obtain ⟨x6, h4, e5, hf⟩ := zbind2 hf
  refine zr_callV_r C0 cv_X6_85_X6 rfl (zcko e3) (m_X6_isFranchisee C0.2.2.2.2.2.2.1 e5) (by decide) (by decide) rfl rfl (Nat.le_of_ble_eq_true rfl) dX6_perimeter_8 rfl ?_
  refine zr_if_ne C0 (tgt := 18) dX6_perimeter_11 (by decide) (fun c7 => ?_) (fun c7 => ?_)
  · have hf := zif_f c7 hf
    refine zr_iconst C0 (v := 0) dX6_perimeter_18 (by decide) ?_
    exact w_X6_perimeter_b19 C0 hf
  · have hf := zif_t c7 hf
    refine zr_iconst C0 (v := 1) dX6_perimeter_14 (by decide) ?_
    refine zr_goto C0 (tgt := 19) dX6_perimeter_15 (by decide) ?_
    exact w_X6_perimeter_b19 C0 hf
def f_X6_perimeter (E : zE) (p0 : Nat) (p1 : Int32) (h : zH) : Option (Int32 × zH) := f_X6_perimeter_b0 E p0 p1 h
theorem m_X6_perimeter {l : Launch} (hst : l.stackTraces = false) {D : zD} {B0 : Nat} {E : zE} {p0 : Nat} {p1 : Int32} {h h' : zH} {r : Int32} (hf : f_X6_perimeter E p0 p1 h = some (r, h')) : zMet l yX6_perimeter (ws_ yX6_perimeter cX6_perimeter 4 (Option.some Jvm.ClassFile.FieldType.int)) 5 152 D B0 E [.ref p0, .int p1] h (zoI r) h' := by
  unfold f_X6_perimeter at hf
  refine zMet_of hst (by decide +kernel) rfl rfl (Nat.le_of_ble_eq_true rfl) (fun p e R s m below meth c C0 hno => ?_)
  show zW _ _ _ _ _ _ _ _ _ _ _ _ _ _ _ _ [(0, .ref p0), (1, .int p1)] []
  exact w_X6_perimeter_b0 C0 hf
def f_X6_border_b39 (E : zE) (h : zH) : Option (Int32 × zH) :=
  some ((0 : Int32), h)
theorem w_X6_border_b39 (C0 : zCx p l e R s m args below meth c D B0 5 "FranchiseLedgerModel" cX6_border E 5 152 (Option.some Jvm.ClassFile.FieldType.int) "border") {r : Int32} {h' : zH} {h : zH} (hf : f_X6_border_b39 E  h = some (r, h')) : zW p l e R s m args below meth c D B0 5 (zEnd D B0 R below args s (zoI r) h') h 39 [] [] := by
  unfold f_X6_border_b39 at hf
  refine zr_iconst C0 (v := 0) dX6_border_39 (by decide) ?_
  refine zretW hf ?_
  exact zr_iret C0 (ty := .int) rfl rfl dX6_border_40 rfl
def f_X6_border_b89 (E : zE) (k46 : Nat → Int32 → Int32 → Int32 → Int32 → zH → Option (Int32 × zH)) (p0 : Nat) (p1 : Int32) (p2 : Int32) (p3 : Int32) (p4 : Int32) (h : zH) : Option (Int32 × zH) :=
  k46 p0 p1 p2 p3 (p4 + 1) h
theorem w_X6_border_b89 (C0 : zCx p l e R s m args below meth c D B0 5 "FranchiseLedgerModel" cX6_border E 5 152 (Option.some Jvm.ClassFile.FieldType.int) "border") {r : Int32} {h' : zH} {k46 : Nat → Int32 → Int32 → Int32 → Int32 → zH → Option (Int32 × zH)} (hk46 : ∀ (p0 : Nat) (p1 : Int32) (p2 : Int32) (p3 : Int32) (p4 : Int32) (h : zH), k46 p0 p1 p2 p3 p4 h = some (r, h') → zW p l e R s m args below meth c D B0 5 (zEnd D B0 R below args s (zoI r) h') h 46 [(0, .ref p0), (1, .int p1), (2, .int p2), (3, .int p3), (4, .int p4)] []) {p0 : Nat} {p1 : Int32} {p2 : Int32} {p3 : Int32} {p4 : Int32} {h : zH} (hf : f_X6_border_b89 E k46 p0 p1 p2 p3 p4 h = some (r, h')) : zW p l e R s m args below meth c D B0 5 (zEnd D B0 R below args s (zoI r) h') h 89 [(0, .ref p0), (1, .int p1), (2, .int p2), (3, .int p3), (4, .int p4)] [] := by
  unfold f_X6_border_b89 at hf
  refine zr_iinc (lv' := [(4, .int (p4 + 1)), (0, .ref p0), (1, .int p1), (2, .int p2), (3, .int p3)]) C0 dX6_border_89 4 rfl rfl (by decide) (by first | rfl | simp [zst1, zst2, zcat_rf]) ?_
  refine zr_goto C0 (tgt := 46) dX6_border_92 (by decide) ?_
  refine zr_sub [1, 2, 3, 4, 0] rfl ?_
  exact hk46 _ _ _ _ _ _ hf
def f_X6_border_l46 (E : zE) : Nat → Nat → Int32 → Int32 → Int32 → Int32 → zH → Option (Int32 × zH)
  | 0, _, _, _, _, _, _ => none
  | n + 1, p0, p1, p2, p3, p4, h =>
    if (900 : Int32) ≤ p4 then (
      some (p3, h)
    ) else (
      (gR h p0 1 0).bind fun x2 =>
      (dL h x2 ((250 : Int32) + p4)).bind fun x4 =>
      if x4 = (p1.toInt64) then (
        (cko h p0 1).bind fun _ =>
        bnd2 (f_X6_neighboursOf E p0 p2 (p4 - p4 / (30 : Int32) * (30 : Int32)) (p4 / (30 : Int32)) h) fun x10 h8 =>
        f_X6_border_b89 E (f_X6_border_l46 E n) p0 p1 p2 (p3 + x10) p4 h8
      ) else (
        f_X6_border_b89 E (f_X6_border_l46 E n) p0 p1 p2 p3 p4 h
      )
    )
theorem w_X6_border_l46 (C0 : zCx p l e R s m args below meth c D B0 5 "FranchiseLedgerModel" cX6_border E 5 152 (Option.some Jvm.ClassFile.FieldType.int) "border") {r : Int32} {h' : zH} : ∀ (n : Nat) (p0 : Nat) (p1 : Int32) (p2 : Int32) (p3 : Int32) (p4 : Int32) (h : zH), f_X6_border_l46 E n p0 p1 p2 p3 p4 h = some (r, h') → zW p l e R s m args below meth c D B0 5 (zEnd D B0 R below args s (zoI r) h') h 46 [(0, .ref p0), (1, .int p1), (2, .int p2), (3, .int p3), (4, .int p4)] [] := by
  intro n
  induction n with
  | zero =>
    intro p0 p1 p2 p3 p4 h hf
    unfold f_X6_border_l46 at hf
    cases hf
  | succ n ih =>
    intro p0 p1 p2 p3 p4 h hf
    unfold f_X6_border_l46 at hf
    refine zr_iload C0 dX6_border_46 4 rfl ?_
    refine zr_sipush C0 (v := 900) dX6_border_48 (by decide) ?_
    refine zr_icmp_ge C0 (tgt := 95) dX6_border_51 (by decide) (fun c1 => ?_) (fun c1 => ?_)
    · have hf := zif_t c1 hf
      refine zr_iload_n C0 dX6_border_95 rfl 3 rfl ?_
      refine zretW hf ?_
      exact zr_iret C0 (ty := .int) rfl rfl dX6_border_96 rfl
    · have hf := zif_f c1 hf
      refine zr_aload_n C0 dX6_border_54 rfl 0 rfl ?_
      obtain ⟨x2, e3, hf⟩ := zbind hf
      refine zr_get C0 fl_X6_9_X6 dX6_border_55 (zgR e3) ?_
      refine zr_sipush C0 (v := 250) dX6_border_58 (by decide) ?_
      refine zr_iload C0 dX6_border_61 4 rfl ?_
      refine zr_iadd C0 dX6_border_63 ?_
      obtain ⟨x4, e5, hf⟩ := zbind hf
      refine zr_lald C0 dX6_border_64 e5 ?_
      refine zr_iload_n C0 dX6_border_65 rfl 1 rfl ?_
      refine zr_i2l C0 dX6_border_66 ?_
      refine zr_lcmp C0 dX6_border_67 ?_
      refine zr_if_ne C0 (tgt := 89) dX6_border_68 (by decide) (fun c6 => ?_) (fun c6 => ?_)
      · have hf := zif_f (zl_ne.mp c6) hf
        exact w_X6_border_b89 C0 ih hf
      · have hf := zif_t (zl_nen.mp c6) hf
        refine zr_iload_n C0 dX6_border_71 rfl 3 rfl ?_
        refine zr_aload_n C0 dX6_border_72 rfl 0 rfl ?_
        refine zr_iload_n C0 dX6_border_73 rfl 2 rfl ?_
        refine zr_iload C0 dX6_border_74 4 rfl ?_
        refine zr_bipush C0 (v := 30) dX6_border_76 (by decide) ?_
        refine zr_irem C0 dX6_border_78 (by decide) ?_
        refine zr_iload C0 dX6_border_79 4 rfl ?_
        refine zr_bipush C0 (v := 30) dX6_border_81 (by decide) ?_
        refine zr_idiv C0 dX6_border_83 (by decide) ?_
        obtain ⟨_, e7, hf⟩ := zbind hf
        obtain ⟨x10, h8, e9, hf⟩ := zbind2 hf
        refine zr_callV_r C0 cv_X6_97_X6 rfl (zcko e7) (m_X6_neighboursOf C0.2.2.2.2.2.2.1 e9) (by decide) (by decide) rfl rfl (Nat.le_of_ble_eq_true rfl) dX6_border_84 rfl ?_
        refine zr_iadd C0 dX6_border_87 ?_
        refine zr_istore_n (i := 3) (lv' := [(3, .int (p3 + x10)), (0, .ref p0), (1, .int p1), (2, .int p2), (4, .int p4)]) C0 dX6_border_88 rfl (by decide) (by first | rfl | simp [zst1, zst2, zcat_rf]) ?_
        refine zr_sub [1, 2, 3, 0, 4] rfl ?_
        exact w_X6_border_b89 C0 ih hf
def f_X6_border_b27 (E : zE) (p0 : Nat) (p1 : Int32) (p2 : Int32) (s0 : Nat) (s1 : Int32) (h : zH) : Option (Int32 × zH) :=
  (cko h s0 1).bind fun _ =>
  bnd2 (f_X6_throwsIf E s0 s1 (1 : Int32) h) fun x4 h2 =>
  if x4 = 0 then (
    if p1 = p2 then (
      f_X6_border_b39 E  h2
    ) else (
      f_X6_border_l46 E E.1 p0 p1 p2 (0 : Int32) (0 : Int32) h2
    )
  ) else (
    f_X6_border_b39 E  h2
  )
theorem w_X6_border_b27 (C0 : zCx p l e R s m args below meth c D B0 5 "FranchiseLedgerModel" cX6_border E 5 152 (Option.some Jvm.ClassFile.FieldType.int) "border") {r : Int32} {h' : zH} {p0 : Nat} {p1 : Int32} {p2 : Int32} {s0 : Nat} {s1 : Int32} {h : zH} (hf : f_X6_border_b27 E p0 p1 p2 s0 s1 h = some (r, h')) : zW p l e R s m args below meth c D B0 5 (zEnd D B0 R below args s (zoI r) h') h 27 [(0, .ref p0), (1, .int p1), (2, .int p2)] [.int s1, .ref s0] := by
  unfold f_X6_border_b27 at hf
  refine zr_iconst C0 (v := 1) dX6_border_27 (by decide) ?_
  obtain ⟨_, e1, hf⟩ := zbind hf
  obtain ⟨x4, h2, e3, hf⟩ := zbind2 hf
  refine zr_callV_r C0 cv_X6_81_X6 rfl (zcko e1) (m_X6_throwsIf C0.2.2.2.2.2.2.1 e3) (by decide) (by decide) rfl rfl (Nat.le_of_ble_eq_true rfl) dX6_border_28 rfl ?_
  refine zr_if_ne C0 (tgt := 39) dX6_border_31 (by decide) (fun c5 => ?_) (fun c5 => ?_)
  · have hf := zif_f c5 hf
    refine zr_sub [] rfl ?_
    exact w_X6_border_b39 C0 hf
  · have hf := zif_t c5 hf
    refine zr_iload_n C0 dX6_border_34 rfl 1 rfl ?_
    refine zr_iload_n C0 dX6_border_35 rfl 2 rfl ?_
    refine zr_icmp_ne C0 (tgt := 41) dX6_border_36 (by decide) (fun c6 => ?_) (fun c6 => ?_)
    · have hf := zif_f c6 hf
      refine zr_iconst C0 (v := 0) dX6_border_41 (by decide) ?_
      refine zr_istore_n (i := 3) (lv' := [(3, .int (0 : Int32)), (0, .ref p0), (1, .int p1), (2, .int p2)]) C0 dX6_border_42 rfl (by decide) (by first | rfl | simp [zst1, zst2, zcat_rf]) ?_
      refine zr_iconst C0 (v := 0) dX6_border_43 (by decide) ?_
      refine zr_istore (i := 4) (lv' := [(4, .int (0 : Int32)), (3, .int (0 : Int32)), (0, .ref p0), (1, .int p1), (2, .int p2)]) C0 dX6_border_44 (by decide) (by first | rfl | simp [zst1, zst2, zcat_rf]) ?_
      refine zr_sub [2, 3, 4, 1, 0] rfl ?_
      exact w_X6_border_l46 C0 _ _ _ _ _ _ _ hf
    · have hf := zif_t c6 hf
      refine zr_sub [] rfl ?_
      exact w_X6_border_b39 C0 hf
def f_X6_border_b22 (E : zE) (p0 : Nat) (p1 : Int32) (p2 : Int32) (s0 : Nat) (h : zH) : Option (Int32 × zH) :=
  f_X6_border_b27 E p0 p1 p2 s0 (1 : Int32) h
theorem w_X6_border_b22 (C0 : zCx p l e R s m args below meth c D B0 5 "FranchiseLedgerModel" cX6_border E 5 152 (Option.some Jvm.ClassFile.FieldType.int) "border") {r : Int32} {h' : zH} {p0 : Nat} {p1 : Int32} {p2 : Int32} {s0 : Nat} {h : zH} (hf : f_X6_border_b22 E p0 p1 p2 s0 h = some (r, h')) : zW p l e R s m args below meth c D B0 5 (zEnd D B0 R below args s (zoI r) h') h 22 [(0, .ref p0), (1, .int p1), (2, .int p2)] [.ref s0] := by
  unfold f_X6_border_b22 at hf
  refine zr_iconst C0 (v := 1) dX6_border_22 (by decide) ?_
  refine zr_goto C0 (tgt := 27) dX6_border_23 (by decide) ?_
  exact w_X6_border_b27 C0 hf
def f_X6_border_b0 (E : zE) (p0 : Nat) (p1 : Int32) (p2 : Int32) (h : zH) : Option (Int32 × zH) :=
  (pF h p0 1 2 (.int (0 : Int32))).bind fun h1 =>
  (cko h1 p0 1).bind fun _ =>
  bnd2 (f_X6_isFranchisee E p0 p1 h1) fun x6 h4 =>
  if x6 = 0 then (
    f_X6_border_b22 E p0 p1 p2 p0 h4
  ) else (
    (cko h4 p0 1).bind fun _ =>
    bnd2 (f_X6_isFranchisee E p0 p2 h4) fun x11 h9 =>
    if x11 = 0 then (
      f_X6_border_b22 E p0 p1 p2 p0 h9
    ) else (
      f_X6_border_b27 E p0 p1 p2 p0 (0 : Int32) h9
    )
  )
theorem w_X6_border_b0 (C0 : zCx p l e R s m args below meth c D B0 5 "FranchiseLedgerModel" cX6_border E 5 152 (Option.some Jvm.ClassFile.FieldType.int) "border") {r : Int32} {h' : zH} {p0 : Nat} {p1 : Int32} {p2 : Int32} {h : zH} (hf : f_X6_border_b0 E p0 p1 p2 h = some (r, h')) : zW p l e R s m args below meth c D B0 5 (zEnd D B0 R below args s (zoI r) h') h 0 [(0, .ref p0), (1, .int p1), (2, .int p2)] [] := by
  unfold f_X6_border_b0 at hf
  refine zr_aload_n C0 dX6_border_0 rfl 0 rfl ?_
  refine zr_iconst C0 (v := 0) dX6_border_1 (by decide) ?_
  obtain ⟨h1, e2, hf⟩ := zbind hf
  refine zr_put C0 pl_X6_50_X6 dX6_border_2 (fun h => by cases h) rfl rfl e2 ?_
  refine zr_aload_n C0 dX6_border_5 rfl 0 rfl ?_
  refine zr_aload_n C0 dX6_border_6 rfl 0 rfl ?_
  refine zr_iload_n C0 dX6_border_7 rfl 1 rfl ?_
  obtain ⟨_, e3, hf⟩ := zbind hf
  obtain ⟨x6, h4, e5, hf⟩ := zbind2 hf
  refine zr_callV_r C0 cv_X6_85_X6 rfl (zcko e3) (m_X6_isFranchisee C0.2.2.2.2.2.2.1 e5) (by decide) (by decide) rfl rfl (Nat.le_of_ble_eq_true rfl) dX6_border_8 rfl ?_
  refine zr_if_eq C0 (tgt := 22) dX6_border_11 (by decide) (fun c7 => ?_) (fun c7 => ?_)
  · have hf := zif_t c7 hf
    exact w_X6_border_b22 C0 hf
  · have hf := zif_f c7 hf
    refine zr_aload_n C0 dX6_border_14 rfl 0 rfl ?_
    refine zr_iload_n C0 dX6_border_15 rfl 2 rfl ?_
    obtain ⟨_, e8, hf⟩ := zbind hf
    obtain ⟨x11, h9, e10, hf⟩ := zbind2 hf
    refine zr_callV_r C0 cv_X6_85_X6 rfl (zcko e8) (m_X6_isFranchisee C0.2.2.2.2.2.2.1 e10) (by decide) (by decide) rfl rfl (Nat.le_of_ble_eq_true rfl) dX6_border_16 rfl ?_
    refine zr_if_ne C0 (tgt := 26) dX6_border_19 (by decide) (fun c12 => ?_) (fun c12 => ?_)
    · have hf := zif_f c12 hf
      refine zr_iconst C0 (v := 0) dX6_border_26 (by decide) ?_
      exact w_X6_border_b27 C0 hf
    · have hf := zif_t c12 hf
      exact w_X6_border_b22 C0 hf
def f_X6_border (E : zE) (p0 : Nat) (p1 : Int32) (p2 : Int32) (h : zH) : Option (Int32 × zH) := f_X6_border_b0 E p0 p1 p2 h
theorem m_X6_border {l : Launch} (hst : l.stackTraces = false) {D : zD} {B0 : Nat} {E : zE} {p0 : Nat} {p1 : Int32} {p2 : Int32} {h h' : zH} {r : Int32} (hf : f_X6_border E p0 p1 p2 h = some (r, h')) : zMet l yX6_border (ws_ yX6_border cX6_border 5 (Option.some Jvm.ClassFile.FieldType.int)) 5 152 D B0 E [.ref p0, .int p1, .int p2] h (zoI r) h' := by
  unfold f_X6_border at hf
  refine zMet_of hst (by decide +kernel) rfl rfl (Nat.le_of_ble_eq_true rfl) (fun p e R s m below meth c C0 hno => ?_)
  show zW _ _ _ _ _ _ _ _ _ _ _ _ _ _ _ _ [(0, .ref p0), (1, .int p1), (2, .int p2)] []
  exact w_X6_border_b0 C0 hf
def f_X6_isReached_b27 (E : zE) (s0 : Int32) (h : zH) : Option (Int32 × zH) :=
  (zgd .boolean s0).bind fun _ =>
  some (s0, h)
theorem w_X6_isReached_b27 (C0 : zCx p l e R s m args below meth c D B0 3 "FranchiseLedgerModel" cX6_isReached E 3 106 (Option.some Jvm.ClassFile.FieldType.boolean) "isReached") {r : Int32} {h' : zH} {s0 : Int32} {h : zH} (hf : f_X6_isReached_b27 E s0 h = some (r, h')) : zW p l e R s m args below meth c D B0 3 (zEnd D B0 R below args s (zoI r) h') h 27 [] [.int s0] := by
  unfold f_X6_isReached_b27 at hf
  obtain ⟨_, e1, hf⟩ := zbind hf
  refine zretW hf ?_
  exact zr_iret C0 (ty := .boolean) rfl (zgd_n e1) dX6_isReached_27 rfl
def f_X6_isReached_b26 (E : zE) (h : zH) : Option (Int32 × zH) :=
  f_X6_isReached_b27 E (0 : Int32) h
theorem w_X6_isReached_b26 (C0 : zCx p l e R s m args below meth c D B0 3 "FranchiseLedgerModel" cX6_isReached E 3 106 (Option.some Jvm.ClassFile.FieldType.boolean) "isReached") {r : Int32} {h' : zH} {h : zH} (hf : f_X6_isReached_b26 E  h = some (r, h')) : zW p l e R s m args below meth c D B0 3 (zEnd D B0 R below args s (zoI r) h') h 26 [] [] := by
  unfold f_X6_isReached_b26 at hf
  refine zr_iconst C0 (v := 0) dX6_isReached_26 (by decide) ?_
  exact w_X6_isReached_b27 C0 hf
def f_X6_isReached_b0 (E : zE) (p0 : Nat) (p1 : Int32) (p2 : Int32) (h : zH) : Option (Int32 × zH) :=
  bnd2 (f_X6_isCell E p1 p2 h) fun x3 h1 =>
  if x3 = 0 then (
    f_X6_isReached_b26 E  h1
  ) else (
    (gR h1 p0 1 3).bind fun x5 =>
    (dI h1 x5 3 (((30 : Int32) * p2) + p1)).bind fun x7 =>
    if x7 = 0 then (
      f_X6_isReached_b26 E  h1
    ) else (
      f_X6_isReached_b27 E (1 : Int32) h1
    )
  )
theorem w_X6_isReached_b0 (C0 : zCx p l e R s m args below meth c D B0 3 "FranchiseLedgerModel" cX6_isReached E 3 106 (Option.some Jvm.ClassFile.FieldType.boolean) "isReached") {r : Int32} {h' : zH} {p0 : Nat} {p1 : Int32} {p2 : Int32} {h : zH} (hf : f_X6_isReached_b0 E p0 p1 p2 h = some (r, h')) : zW p l e R s m args below meth c D B0 3 (zEnd D B0 R below args s (zoI r) h') h 0 [(0, .ref p0), (1, .int p1), (2, .int p2)] [] := by
  unfold f_X6_isReached_b0 at hf
  refine zr_iload_n C0 dX6_isReached_0 rfl 1 rfl ?_
  refine zr_iload_n C0 dX6_isReached_1 rfl 2 rfl ?_
  obtain ⟨x3, h1, e2, hf⟩ := zbind2 hf
  refine zr_callS_r C0 cv_X6_67 (m_X6_isCell C0.2.2.2.2.2.2.1 e2) (by decide) (by decide) rfl rfl (Nat.le_of_ble_eq_true rfl) dX6_isReached_2 rfl ?_
  refine zr_if_eq C0 (tgt := 26) dX6_isReached_5 (by decide) (fun c4 => ?_) (fun c4 => ?_)
  · have hf := zif_t c4 hf
    refine zr_sub [] rfl ?_
    exact w_X6_isReached_b26 C0 hf
  · have hf := zif_f c4 hf
    refine zr_aload_n C0 dX6_isReached_8 rfl 0 rfl ?_
    obtain ⟨x5, e6, hf⟩ := zbind hf
    refine zr_get C0 fl_X6_17_X6 dX6_isReached_9 (zgR e6) ?_
    refine zr_bipush C0 (v := 30) dX6_isReached_12 (by decide) ?_
    refine zr_iload_n C0 dX6_isReached_14 rfl 2 rfl ?_
    refine zr_imul C0 dX6_isReached_15 ?_
    refine zr_iload_n C0 dX6_isReached_16 rfl 1 rfl ?_
    refine zr_iadd C0 dX6_isReached_17 ?_
    obtain ⟨x7, e8, hf⟩ := zbind hf
    refine zr_zald C0 dX6_isReached_18 e8 ?_
    refine zr_if_eq C0 (tgt := 26) dX6_isReached_19 (by decide) (fun c9 => ?_) (fun c9 => ?_)
    · have hf := zif_t c9 hf
      refine zr_sub [] rfl ?_
      exact w_X6_isReached_b26 C0 hf
    · have hf := zif_f c9 hf
      refine zr_iconst C0 (v := 1) dX6_isReached_22 (by decide) ?_
      refine zr_goto C0 (tgt := 27) dX6_isReached_23 (by decide) ?_
      refine zr_sub [] rfl ?_
      exact w_X6_isReached_b27 C0 hf
def f_X6_isReached (E : zE) (p0 : Nat) (p1 : Int32) (p2 : Int32) (h : zH) : Option (Int32 × zH) := f_X6_isReached_b0 E p0 p1 p2 h
theorem m_X6_isReached {l : Launch} (hst : l.stackTraces = false) {D : zD} {B0 : Nat} {E : zE} {p0 : Nat} {p1 : Int32} {p2 : Int32} {h h' : zH} {r : Int32} (hf : f_X6_isReached E p0 p1 p2 h = some (r, h')) : zMet l yX6_isReached (ws_ yX6_isReached cX6_isReached 3 (Option.some Jvm.ClassFile.FieldType.boolean)) 3 106 D B0 E [.ref p0, .int p1, .int p2] h (zoI r) h' := by
  unfold f_X6_isReached at hf
  refine zMet_of hst (by decide +kernel) rfl rfl (Nat.le_of_ble_eq_true rfl) (fun p e R s m below meth c C0 hno => ?_)
  show zW _ _ _ _ _ _ _ _ _ _ _ _ _ _ _ _ [(0, .ref p0), (1, .int p1), (2, .int p2)] []
  exact w_X6_isReached_b0 C0 hf
def f_X6_connected_b229 (E : zE) (s0 : Int32) (h : zH) : Option (Int32 × zH) :=
  (zgd .boolean s0).bind fun _ =>
  some (s0, h)
theorem w_X6_connected_b229 (C0 : zCx p l e R s m args below meth c D B0 8 "FranchiseLedgerModel" cX6_connected E 4 128 (Option.some Jvm.ClassFile.FieldType.boolean) "connected") {r : Int32} {h' : zH} {s0 : Int32} {h : zH} (hf : f_X6_connected_b229 E s0 h = some (r, h')) : zW p l e R s m args below meth c D B0 8 (zEnd D B0 R below args s (zoI r) h') h 229 [] [.int s0] := by
  unfold f_X6_connected_b229 at hf
  obtain ⟨_, e1, hf⟩ := zbind hf
  refine zretW hf ?_
  exact zr_iret C0 (ty := .boolean) rfl (zgd_n e1) dX6_connected_229 rfl
def f_X6_connected_b206 (E : zE) (k74 : Nat → Int32 → Int32 → Int32 → zH → Option (Int32 × zH)) (k85 : Nat → Int32 → Int32 → Int32 → Int32 → zH → Option (Int32 × zH)) (p0 : Nat) (p1 : Int32) (p3 : Int32) (p4 : Int32) (p5 : Int32) (h : zH) : Option (Int32 × zH) :=
  k85 p0 p1 p3 p4 (p5 + 1) h
theorem w_X6_connected_b206 (C0 : zCx p l e R s m args below meth c D B0 8 "FranchiseLedgerModel" cX6_connected E 4 128 (Option.some Jvm.ClassFile.FieldType.boolean) "connected") {r : Int32} {h' : zH} {k74 : Nat → Int32 → Int32 → Int32 → zH → Option (Int32 × zH)} (hk74 : ∀ (p0 : Nat) (p1 : Int32) (p3 : Int32) (p4 : Int32) (h : zH), k74 p0 p1 p3 p4 h = some (r, h') → zW p l e R s m args below meth c D B0 8 (zEnd D B0 R below args s (zoI r) h') h 74 [(0, .ref p0), (1, .int p1), (3, .int p3), (4, .int p4)] []) {k85 : Nat → Int32 → Int32 → Int32 → Int32 → zH → Option (Int32 × zH)} (hk85 : ∀ (p0 : Nat) (p1 : Int32) (p3 : Int32) (p4 : Int32) (p5 : Int32) (h : zH), k85 p0 p1 p3 p4 p5 h = some (r, h') → zW p l e R s m args below meth c D B0 8 (zEnd D B0 R below args s (zoI r) h') h 85 [(0, .ref p0), (1, .int p1), (3, .int p3), (4, .int p4), (5, .int p5)] []) {p0 : Nat} {p1 : Int32} {p3 : Int32} {p4 : Int32} {p5 : Int32} {h : zH} (hf : f_X6_connected_b206 E k74 k85 p0 p1 p3 p4 p5 h = some (r, h')) : zW p l e R s m args below meth c D B0 8 (zEnd D B0 R below args s (zoI r) h') h 206 [(0, .ref p0), (1, .int p1), (3, .int p3), (4, .int p4), (5, .int p5)] [] := by
  unfold f_X6_connected_b206 at hf
  refine zr_iinc (lv' := [(5, .int (p5 + 1)), (0, .ref p0), (1, .int p1), (3, .int p3), (4, .int p4)]) C0 dX6_connected_206 4 rfl rfl (by decide) (by first | rfl | simp [zst1, zst2, zcat_rf]) ?_
  refine zr_goto C0 (tgt := 85) dX6_connected_209 (by decide) ?_
  refine zr_sub [1, 2, 3, 4, 0] rfl ?_
  exact hk85 _ _ _ _ _ _ hf
def f_X6_connected_b192 (E : zE) (k74 : Nat → Int32 → Int32 → Int32 → zH → Option (Int32 × zH)) (k85 : Nat → Int32 → Int32 → Int32 → Int32 → zH → Option (Int32 × zH)) (p0 : Nat) (p1 : Int32) (p3 : Int32) (p5 : Int32) (h : zH) : Option (Int32 × zH) :=
  (gR h p0 1 3).bind fun x1 =>
  (sI h x1 3 p5 (1 : Int32)).bind fun h3 =>
  f_X6_connected_b206 E k74 k85 p0 p1 (p3 + 1) (1 : Int32) p5 h3
theorem w_X6_connected_b192 (C0 : zCx p l e R s m args below meth c D B0 8 "FranchiseLedgerModel" cX6_connected E 4 128 (Option.some Jvm.ClassFile.FieldType.boolean) "connected") {r : Int32} {h' : zH} {k74 : Nat → Int32 → Int32 → Int32 → zH → Option (Int32 × zH)} (hk74 : ∀ (p0 : Nat) (p1 : Int32) (p3 : Int32) (p4 : Int32) (h : zH), k74 p0 p1 p3 p4 h = some (r, h') → zW p l e R s m args below meth c D B0 8 (zEnd D B0 R below args s (zoI r) h') h 74 [(0, .ref p0), (1, .int p1), (3, .int p3), (4, .int p4)] []) {k85 : Nat → Int32 → Int32 → Int32 → Int32 → zH → Option (Int32 × zH)} (hk85 : ∀ (p0 : Nat) (p1 : Int32) (p3 : Int32) (p4 : Int32) (p5 : Int32) (h : zH), k85 p0 p1 p3 p4 p5 h = some (r, h') → zW p l e R s m args below meth c D B0 8 (zEnd D B0 R below args s (zoI r) h') h 85 [(0, .ref p0), (1, .int p1), (3, .int p3), (4, .int p4), (5, .int p5)] []) {p0 : Nat} {p1 : Int32} {p3 : Int32} {p5 : Int32} {h : zH} (hf : f_X6_connected_b192 E k74 k85 p0 p1 p3 p5 h = some (r, h')) : zW p l e R s m args below meth c D B0 8 (zEnd D B0 R below args s (zoI r) h') h 192 [(0, .ref p0), (1, .int p1), (3, .int p3), (5, .int p5)] [] := by
  unfold f_X6_connected_b192 at hf
  refine zr_aload_n C0 dX6_connected_192 rfl 0 rfl ?_
  obtain ⟨x1, e2, hf⟩ := zbind hf
  refine zr_get C0 fl_X6_17_X6 dX6_connected_193 (zgR e2) ?_
  refine zr_iload C0 dX6_connected_196 3 rfl ?_
  refine zr_iconst C0 (v := 1) dX6_connected_198 (by decide) ?_
  obtain ⟨h3, e4, hf⟩ := zbind hf
  refine zr_zast C0 dX6_connected_199 (Or.inr rfl) e4 ?_
  refine zr_iinc (lv' := [(3, .int (p3 + 1)), (0, .ref p0), (1, .int p1), (5, .int p5)]) C0 dX6_connected_200 2 rfl rfl (by decide) (by first | rfl | simp [zst1, zst2, zcat_rf]) ?_
  refine zr_iconst C0 (v := 1) dX6_connected_203 (by decide) ?_
  refine zr_istore (i := 4) (lv' := [(4, .int (1 : Int32)), (3, .int (p3 + 1)), (0, .ref p0), (1, .int p1), (5, .int p5)]) C0 dX6_connected_204 (by decide) (by first | rfl | simp [zst1, zst2, zcat_rf]) ?_
  refine zr_sub [2, 3, 1, 0, 4] rfl ?_
  exact w_X6_connected_b206 C0 hk74 hk85 hf
def f_X6_connected_l85 (E : zE) (k74 : Nat → Int32 → Int32 → Int32 → zH → Option (Int32 × zH)) : Nat → Nat → Int32 → Int32 → Int32 → Int32 → zH → Option (Int32 × zH)
  | 0, _, _, _, _, _, _ => none
  | n + 1, p0, p1, p3, p4, p5, h =>
    if (900 : Int32) ≤ p5 then (
      k74 p0 p1 p3 p4 h
    ) else (
      (gR h p0 1 3).bind fun x2 =>
      (dI h x2 3 p5).bind fun x4 =>
      if x4 = 0 then (
        (gR h p0 1 0).bind fun x7 =>
        (dL h x7 ((250 : Int32) + p5)).bind fun x9 =>
        if x9 = (p1.toInt64) then (
          (cko h p0 1).bind fun _ =>
          bnd2 (f_X6_isReached E p0 ((p5 - p5 / (30 : Int32) * (30 : Int32)) - (1 : Int32)) (p5 / (30 : Int32)) h) fun x15 h13 =>
          if x15 = 0 then (
            (cko h13 p0 1).bind fun _ =>
            bnd2 (f_X6_isReached E p0 ((p5 - p5 / (30 : Int32) * (30 : Int32)) + (1 : Int32)) (p5 / (30 : Int32)) h13) fun x20 h18 =>
            if x20 = 0 then (
              (cko h18 p0 1).bind fun _ =>
              bnd2 (f_X6_isReached E p0 (p5 - p5 / (30 : Int32) * (30 : Int32)) ((p5 / (30 : Int32)) - (1 : Int32)) h18) fun x25 h23 =>
              if x25 = 0 then (
                (cko h23 p0 1).bind fun _ =>
                bnd2 (f_X6_isReached E p0 (p5 - p5 / (30 : Int32) * (30 : Int32)) ((p5 / (30 : Int32)) + (1 : Int32)) h23) fun x30 h28 =>
                if x30 = 0 then (
                  f_X6_connected_b206 E k74 (f_X6_connected_l85 E k74 n) p0 p1 p3 p4 p5 h28
                ) else (
                  f_X6_connected_b192 E k74 (f_X6_connected_l85 E k74 n) p0 p1 p3 p5 h28
                )
              ) else (
                f_X6_connected_b192 E k74 (f_X6_connected_l85 E k74 n) p0 p1 p3 p5 h23
              )
            ) else (
              f_X6_connected_b192 E k74 (f_X6_connected_l85 E k74 n) p0 p1 p3 p5 h18
            )
          ) else (
            f_X6_connected_b192 E k74 (f_X6_connected_l85 E k74 n) p0 p1 p3 p5 h13
          )
        ) else (
          f_X6_connected_b206 E k74 (f_X6_connected_l85 E k74 n) p0 p1 p3 p4 p5 h
        )
      ) else (
        f_X6_connected_b206 E k74 (f_X6_connected_l85 E k74 n) p0 p1 p3 p4 p5 h
      )
    )
theorem w_X6_connected_l85 (C0 : zCx p l e R s m args below meth c D B0 8 "FranchiseLedgerModel" cX6_connected E 4 128 (Option.some Jvm.ClassFile.FieldType.boolean) "connected") {r : Int32} {h' : zH} {k74 : Nat → Int32 → Int32 → Int32 → zH → Option (Int32 × zH)} (hk74 : ∀ (p0 : Nat) (p1 : Int32) (p3 : Int32) (p4 : Int32) (h : zH), k74 p0 p1 p3 p4 h = some (r, h') → zW p l e R s m args below meth c D B0 8 (zEnd D B0 R below args s (zoI r) h') h 74 [(0, .ref p0), (1, .int p1), (3, .int p3), (4, .int p4)] []) : ∀ (n : Nat) (p0 : Nat) (p1 : Int32) (p3 : Int32) (p4 : Int32) (p5 : Int32) (h : zH), f_X6_connected_l85 E k74 n p0 p1 p3 p4 p5 h = some (r, h') → zW p l e R s m args below meth c D B0 8 (zEnd D B0 R below args s (zoI r) h') h 85 [(0, .ref p0), (1, .int p1), (3, .int p3), (4, .int p4), (5, .int p5)] [] := by
  intro n
  induction n with
  | zero =>
    intro p0 p1 p3 p4 p5 h hf
    unfold f_X6_connected_l85 at hf
    cases hf
  | succ n ih =>
    intro p0 p1 p3 p4 p5 h hf
    unfold f_X6_connected_l85 at hf
    refine zr_iload C0 dX6_connected_85 4 rfl ?_
    refine zr_sipush C0 (v := 900) dX6_connected_87 (by decide) ?_
    refine zr_icmp_ge C0 (tgt := 212) dX6_connected_90 (by decide) (fun c1 => ?_) (fun c1 => ?_)
    · have hf := zif_t c1 hf
      refine zr_goto C0 (tgt := 74) dX6_connected_212 (by decide) ?_
      refine zr_sub [0, 1, 2, 3] rfl ?_
      exact hk74 _ _ _ _ _ hf
    · have hf := zif_f c1 hf
      refine zr_aload_n C0 dX6_connected_93 rfl 0 rfl ?_
      obtain ⟨x2, e3, hf⟩ := zbind hf
      refine zr_get C0 fl_X6_17_X6 dX6_connected_94 (zgR e3) ?_
      refine zr_iload C0 dX6_connected_97 4 rfl ?_
      obtain ⟨x4, e5, hf⟩ := zbind hf
      refine zr_zald C0 dX6_connected_99 e5 ?_
      refine zr_if_ne C0 (tgt := 206) dX6_connected_100 (by decide) (fun c6 => ?_) (fun c6 => ?_)
      · have hf := zif_f c6 hf
        exact w_X6_connected_b206 C0 hk74 ih hf
      · have hf := zif_t c6 hf
        refine zr_aload_n C0 dX6_connected_103 rfl 0 rfl ?_
        obtain ⟨x7, e8, hf⟩ := zbind hf
        refine zr_get C0 fl_X6_9_X6 dX6_connected_104 (zgR e8) ?_
        refine zr_sipush C0 (v := 250) dX6_connected_107 (by decide) ?_
        refine zr_iload C0 dX6_connected_110 4 rfl ?_
        refine zr_iadd C0 dX6_connected_112 ?_
        obtain ⟨x9, e10, hf⟩ := zbind hf
        refine zr_lald C0 dX6_connected_113 e10 ?_
        refine zr_iload_n C0 dX6_connected_114 rfl 1 rfl ?_
        refine zr_i2l C0 dX6_connected_115 ?_
        refine zr_lcmp C0 dX6_connected_116 ?_
        refine zr_if_eq C0 (tgt := 123) dX6_connected_117 (by decide) (fun c11 => ?_) (fun c11 => ?_)
        · have hf := zif_t (zl_eq.mp c11) hf
          refine zr_iload C0 dX6_connected_123 4 rfl ?_
          refine zr_bipush C0 (v := 30) dX6_connected_125 (by decide) ?_
          refine zr_irem C0 dX6_connected_127 (by decide) ?_
          refine zr_istore (i := 6) (lv' := [(6, .int (p5 - p5 / (30 : Int32) * (30 : Int32))), (0, .ref p0), (1, .int p1), (3, .int p3), (4, .int p4), (5, .int p5)]) C0 dX6_connected_128 (by decide) (by first | rfl | simp [zst1, zst2, zcat_rf]) ?_
          refine zr_iload C0 dX6_connected_130 5 rfl ?_
          refine zr_bipush C0 (v := 30) dX6_connected_132 (by decide) ?_
          refine zr_idiv C0 dX6_connected_134 (by decide) ?_
          refine zr_istore (i := 7) (lv' := [(7, .int (p5 / (30 : Int32))), (6, .int (p5 - p5 / (30 : Int32) * (30 : Int32))), (0, .ref p0), (1, .int p1), (3, .int p3), (4, .int p4), (5, .int p5)]) C0 dX6_connected_135 (by decide) (by first | rfl | simp [zst1, zst2, zcat_rf]) ?_
          refine zr_aload_n C0 dX6_connected_137 rfl 2 rfl ?_
          refine zr_iload C0 dX6_connected_138 1 rfl ?_
          refine zr_iconst C0 (v := 1) dX6_connected_140 (by decide) ?_
          refine zr_isub C0 dX6_connected_141 ?_
          refine zr_iload C0 dX6_connected_142 0 rfl ?_
          obtain ⟨_, e12, hf⟩ := zbind hf
          obtain ⟨x15, h13, e14, hf⟩ := zbind2 hf
          refine zr_callV_r C0 cv_X6_101_X6 rfl (zcko e12) (m_X6_isReached C0.2.2.2.2.2.2.1 e14) (by decide) (by decide) rfl rfl (Nat.le_of_ble_eq_true rfl) dX6_connected_144 rfl ?_
          refine zr_if_ne C0 (tgt := 192) dX6_connected_147 (by decide) (fun c16 => ?_) (fun c16 => ?_)
          · have hf := zif_f c16 hf
            refine zr_sub [2, 3, 4, 6] rfl ?_
            exact w_X6_connected_b192 C0 hk74 ih hf
          · have hf := zif_t c16 hf
            refine zr_aload_n C0 dX6_connected_150 rfl 2 rfl ?_
            refine zr_iload C0 dX6_connected_151 1 rfl ?_
            refine zr_iconst C0 (v := 1) dX6_connected_153 (by decide) ?_
            refine zr_iadd C0 dX6_connected_154 ?_
            refine zr_iload C0 dX6_connected_155 0 rfl ?_
            obtain ⟨_, e17, hf⟩ := zbind hf
            obtain ⟨x20, h18, e19, hf⟩ := zbind2 hf
            refine zr_callV_r C0 cv_X6_101_X6 rfl (zcko e17) (m_X6_isReached C0.2.2.2.2.2.2.1 e19) (by decide) (by decide) rfl rfl (Nat.le_of_ble_eq_true rfl) dX6_connected_157 rfl ?_
            refine zr_if_ne C0 (tgt := 192) dX6_connected_160 (by decide) (fun c21 => ?_) (fun c21 => ?_)
            · have hf := zif_f c21 hf
              refine zr_sub [2, 3, 4, 6] rfl ?_
              exact w_X6_connected_b192 C0 hk74 ih hf
            · have hf := zif_t c21 hf
              refine zr_aload_n C0 dX6_connected_163 rfl 2 rfl ?_
              refine zr_iload C0 dX6_connected_164 1 rfl ?_
              refine zr_iload C0 dX6_connected_166 0 rfl ?_
              refine zr_iconst C0 (v := 1) dX6_connected_168 (by decide) ?_
              refine zr_isub C0 dX6_connected_169 ?_
              obtain ⟨_, e22, hf⟩ := zbind hf
              obtain ⟨x25, h23, e24, hf⟩ := zbind2 hf
              refine zr_callV_r C0 cv_X6_101_X6 rfl (zcko e22) (m_X6_isReached C0.2.2.2.2.2.2.1 e24) (by decide) (by decide) rfl rfl (Nat.le_of_ble_eq_true rfl) dX6_connected_170 rfl ?_
              refine zr_if_ne C0 (tgt := 192) dX6_connected_173 (by decide) (fun c26 => ?_) (fun c26 => ?_)
              · have hf := zif_f c26 hf
                refine zr_sub [2, 3, 4, 6] rfl ?_
                exact w_X6_connected_b192 C0 hk74 ih hf
              · have hf := zif_t c26 hf
                refine zr_aload_n C0 dX6_connected_176 rfl 2 rfl ?_
                refine zr_iload C0 dX6_connected_177 1 rfl ?_
                refine zr_iload C0 dX6_connected_179 0 rfl ?_
                refine zr_iconst C0 (v := 1) dX6_connected_181 (by decide) ?_
                refine zr_iadd C0 dX6_connected_182 ?_
                obtain ⟨_, e27, hf⟩ := zbind hf
                obtain ⟨x30, h28, e29, hf⟩ := zbind2 hf
                refine zr_callV_r C0 cv_X6_101_X6 rfl (zcko e27) (m_X6_isReached C0.2.2.2.2.2.2.1 e29) (by decide) (by decide) rfl rfl (Nat.le_of_ble_eq_true rfl) dX6_connected_183 rfl ?_
                refine zr_if_ne C0 (tgt := 192) dX6_connected_186 (by decide) (fun c31 => ?_) (fun c31 => ?_)
                · have hf := zif_f c31 hf
                  refine zr_sub [2, 3, 4, 6] rfl ?_
                  exact w_X6_connected_b192 C0 hk74 ih hf
                · have hf := zif_t c31 hf
                  refine zr_goto C0 (tgt := 206) dX6_connected_189 (by decide) ?_
                  refine zr_sub [2, 3, 4, 5, 6] rfl ?_
                  exact w_X6_connected_b206 C0 hk74 ih hf
        · have hf := zif_f (zl_eqn.mp c11) hf
          refine zr_goto C0 (tgt := 206) dX6_connected_120 (by decide) ?_
          exact w_X6_connected_b206 C0 hk74 ih hf
def f_X6_connected_l74 (E : zE) : Nat → Nat → Int32 → Int32 → Int32 → zH → Option (Int32 × zH)
  | 0, _, _, _, _, _ => none
  | n + 1, p0, p1, p3, p4, h =>
    if p4 = 0 then (
      (cko h p0 1).bind fun _ =>
      bnd2 (f_X6_areaOf E p0 p1 h) fun x5 h3 =>
      if p3 = x5 then (
        f_X6_connected_b229 E (1 : Int32) h3
      ) else (
        f_X6_connected_b229 E (0 : Int32) h3
      )
    ) else (
      f_X6_connected_l85 E (f_X6_connected_l74 E n) E.1 p0 p1 p3 (0 : Int32) (0 : Int32) h
    )
theorem w_X6_connected_l74 (C0 : zCx p l e R s m args below meth c D B0 8 "FranchiseLedgerModel" cX6_connected E 4 128 (Option.some Jvm.ClassFile.FieldType.boolean) "connected") {r : Int32} {h' : zH} : ∀ (n : Nat) (p0 : Nat) (p1 : Int32) (p3 : Int32) (p4 : Int32) (h : zH), f_X6_connected_l74 E n p0 p1 p3 p4 h = some (r, h') → zW p l e R s m args below meth c D B0 8 (zEnd D B0 R below args s (zoI r) h') h 74 [(0, .ref p0), (1, .int p1), (3, .int p3), (4, .int p4)] [] := by
  intro n
  induction n with
  | zero =>
    intro p0 p1 p3 p4 h hf
    unfold f_X6_connected_l74 at hf
    cases hf
  | succ n ih =>
    intro p0 p1 p3 p4 h hf
    unfold f_X6_connected_l74 at hf
    refine zr_iload C0 dX6_connected_74 3 rfl ?_
    refine zr_if_eq C0 (tgt := 215) dX6_connected_76 (by decide) (fun c1 => ?_) (fun c1 => ?_)
    · have hf := zif_t c1 hf
      refine zr_iload_n C0 dX6_connected_215 rfl 2 rfl ?_
      refine zr_aload_n C0 dX6_connected_216 rfl 0 rfl ?_
      refine zr_iload_n C0 dX6_connected_217 rfl 1 rfl ?_
      obtain ⟨_, e2, hf⟩ := zbind hf
      obtain ⟨x5, h3, e4, hf⟩ := zbind2 hf
      refine zr_callV_r C0 cv_X6_89_X6 rfl (zcko e2) (m_X6_areaOf C0.2.2.2.2.2.2.1 e4) (by decide) (by decide) rfl rfl (Nat.le_of_ble_eq_true rfl) dX6_connected_218 rfl ?_
      refine zr_icmp_ne C0 (tgt := 228) dX6_connected_221 (by decide) (fun c6 => ?_) (fun c6 => ?_)
      · have hf := zif_f c6 hf
        refine zr_iconst C0 (v := 0) dX6_connected_228 (by decide) ?_
        refine zr_sub [] rfl ?_
        exact w_X6_connected_b229 C0 hf
      · have hf := zif_t c6 hf
        refine zr_iconst C0 (v := 1) dX6_connected_224 (by decide) ?_
        refine zr_goto C0 (tgt := 229) dX6_connected_225 (by decide) ?_
        refine zr_sub [] rfl ?_
        exact w_X6_connected_b229 C0 hf
    · have hf := zif_f c1 hf
      refine zr_iconst C0 (v := 0) dX6_connected_79 (by decide) ?_
      refine zr_istore (i := 4) (lv' := [(4, .int (0 : Int32)), (0, .ref p0), (1, .int p1), (3, .int p3)]) C0 dX6_connected_80 (by decide) (by first | rfl | simp [zst1, zst2, zcat_rf]) ?_
      refine zr_iconst C0 (v := 0) dX6_connected_82 (by decide) ?_
      refine zr_istore (i := 5) (lv' := [(5, .int (0 : Int32)), (4, .int (0 : Int32)), (0, .ref p0), (1, .int p1), (3, .int p3)]) C0 dX6_connected_83 (by decide) (by first | rfl | simp [zst1, zst2, zcat_rf]) ?_
      refine zr_sub [2, 3, 4, 1, 0] rfl ?_
      exact w_X6_connected_l85 C0 ih _ _ _ _ _ _ _ hf
def f_X6_connected_l42 (E : zE) : Nat → Nat → Int32 → Int32 → Int32 → zH → Option (Int32 × zH)
  | 0, _, _, _, _, _ => none
  | n + 1, p0, p1, p2, p3, h =>
    if (900 : Int32) ≤ p3 then (
      (gR h p0 1 3).bind fun x2 =>
      (sI h x2 3 p2 (1 : Int32)).bind fun h4 =>
      f_X6_connected_l74 E E.1 p0 p1 (1 : Int32) (1 : Int32) h4
    ) else (
      (gR h p0 1 3).bind fun x6 =>
      (sI h x6 3 p3 (0 : Int32)).bind fun h8 =>
      f_X6_connected_l42 E n p0 p1 p2 (p3 + 1) h8
    )
theorem w_X6_connected_l42 (C0 : zCx p l e R s m args below meth c D B0 8 "FranchiseLedgerModel" cX6_connected E 4 128 (Option.some Jvm.ClassFile.FieldType.boolean) "connected") {r : Int32} {h' : zH} : ∀ (n : Nat) (p0 : Nat) (p1 : Int32) (p2 : Int32) (p3 : Int32) (h : zH), f_X6_connected_l42 E n p0 p1 p2 p3 h = some (r, h') → zW p l e R s m args below meth c D B0 8 (zEnd D B0 R below args s (zoI r) h') h 42 [(0, .ref p0), (1, .int p1), (2, .int p2), (3, .int p3)] [] := by
  intro n
  induction n with
  | zero =>
    intro p0 p1 p2 p3 h hf
    unfold f_X6_connected_l42 at hf
    cases hf
  | succ n ih =>
    intro p0 p1 p2 p3 h hf
    unfold f_X6_connected_l42 at hf
    refine zr_iload_n C0 dX6_connected_42 rfl 3 rfl ?_
    refine zr_sipush C0 (v := 900) dX6_connected_43 (by decide) ?_
    refine zr_icmp_ge C0 (tgt := 62) dX6_connected_46 (by decide) (fun c1 => ?_) (fun c1 => ?_)
    · have hf := zif_t c1 hf
      refine zr_aload_n C0 dX6_connected_62 rfl 0 rfl ?_
      obtain ⟨x2, e3, hf⟩ := zbind hf
      refine zr_get C0 fl_X6_17_X6 dX6_connected_63 (zgR e3) ?_
      refine zr_iload_n C0 dX6_connected_66 rfl 2 rfl ?_
      refine zr_iconst C0 (v := 1) dX6_connected_67 (by decide) ?_
      obtain ⟨h4, e5, hf⟩ := zbind hf
      refine zr_zast C0 dX6_connected_68 (Or.inr rfl) e5 ?_
      refine zr_iconst C0 (v := 1) dX6_connected_69 (by decide) ?_
      refine zr_istore_n (i := 3) (lv' := [(3, .int (1 : Int32)), (0, .ref p0), (1, .int p1), (2, .int p2)]) C0 dX6_connected_70 rfl (by decide) (by first | rfl | simp [zst1, zst2, zcat_rf]) ?_
      refine zr_iconst C0 (v := 1) dX6_connected_71 (by decide) ?_
      refine zr_istore (i := 4) (lv' := [(4, .int (1 : Int32)), (3, .int (1 : Int32)), (0, .ref p0), (1, .int p1), (2, .int p2)]) C0 dX6_connected_72 (by decide) (by first | rfl | simp [zst1, zst2, zcat_rf]) ?_
      refine zr_sub [2, 3, 1, 0] rfl ?_
      exact w_X6_connected_l74 C0 _ _ _ _ _ _ hf
    · have hf := zif_f c1 hf
      refine zr_aload_n C0 dX6_connected_49 rfl 0 rfl ?_
      obtain ⟨x6, e7, hf⟩ := zbind hf
      refine zr_get C0 fl_X6_17_X6 dX6_connected_50 (zgR e7) ?_
      refine zr_iload_n C0 dX6_connected_53 rfl 3 rfl ?_
      refine zr_iconst C0 (v := 0) dX6_connected_54 (by decide) ?_
      obtain ⟨h8, e9, hf⟩ := zbind hf
      refine zr_zast C0 dX6_connected_55 (Or.inl rfl) e9 ?_
      refine zr_iinc (lv' := [(3, .int (p3 + 1)), (0, .ref p0), (1, .int p1), (2, .int p2)]) C0 dX6_connected_56 3 rfl rfl (by decide) (by first | rfl | simp [zst1, zst2, zcat_rf]) ?_
      refine zr_goto C0 (tgt := 42) dX6_connected_59 (by decide) ?_
      refine zr_sub [1, 2, 3, 0] rfl ?_
      exact ih _ _ _ _ _ hf
def f_X6_connected_b31 (E : zE) (p0 : Nat) (p1 : Int32) (p2 : Int32) (h : zH) : Option (Int32 × zH) :=
  if p2 = (900 : Int32) then (
    some ((0 : Int32), h)
  ) else (
    f_X6_connected_l42 E E.1 p0 p1 p2 (0 : Int32) h
  )
theorem w_X6_connected_b31 (C0 : zCx p l e R s m args below meth c D B0 8 "FranchiseLedgerModel" cX6_connected E 4 128 (Option.some Jvm.ClassFile.FieldType.boolean) "connected") {r : Int32} {h' : zH} {p0 : Nat} {p1 : Int32} {p2 : Int32} {h : zH} (hf : f_X6_connected_b31 E p0 p1 p2 h = some (r, h')) : zW p l e R s m args below meth c D B0 8 (zEnd D B0 R below args s (zoI r) h') h 31 [(0, .ref p0), (1, .int p1), (2, .int p2)] [] := by
  unfold f_X6_connected_b31 at hf
  refine zr_iload_n C0 dX6_connected_31 rfl 2 rfl ?_
  refine zr_sipush C0 (v := 900) dX6_connected_32 (by decide) ?_
  refine zr_icmp_ne C0 (tgt := 40) dX6_connected_35 (by decide) (fun c1 => ?_) (fun c1 => ?_)
  · have hf := zif_f c1 hf
    refine zr_iconst C0 (v := 0) dX6_connected_40 (by decide) ?_
    refine zr_istore_n (i := 3) (lv' := [(3, .int (0 : Int32)), (0, .ref p0), (1, .int p1), (2, .int p2)]) C0 dX6_connected_41 rfl (by decide) (by first | rfl | simp [zst1, zst2, zcat_rf]) ?_
    refine zr_sub [1, 2, 3, 0] rfl ?_
    exact w_X6_connected_l42 C0 _ _ _ _ _ _ hf
  · have hf := zif_t c1 hf
    refine zr_iconst C0 (v := 0) dX6_connected_38 (by decide) ?_
    refine zretW hf ?_
    exact zr_iret C0 (ty := .boolean) rfl (by decide) dX6_connected_39 rfl
def f_X6_connected_l2 (E : zE) : Nat → Nat → Int32 → Int32 → zH → Option (Int32 × zH)
  | 0, _, _, _, _ => none
  | n + 1, p0, p1, p2, h =>
    if (900 : Int32) ≤ p2 then (
      f_X6_connected_b31 E p0 p1 p2 h
    ) else (
      (gR h p0 1 0).bind fun x2 =>
      (dL h x2 ((250 : Int32) + p2)).bind fun x4 =>
      if x4 = (p1.toInt64) then (
        f_X6_connected_b31 E p0 p1 p2 h
      ) else (
        f_X6_connected_l2 E n p0 p1 (p2 + 1) h
      )
    )
theorem w_X6_connected_l2 (C0 : zCx p l e R s m args below meth c D B0 8 "FranchiseLedgerModel" cX6_connected E 4 128 (Option.some Jvm.ClassFile.FieldType.boolean) "connected") {r : Int32} {h' : zH} : ∀ (n : Nat) (p0 : Nat) (p1 : Int32) (p2 : Int32) (h : zH), f_X6_connected_l2 E n p0 p1 p2 h = some (r, h') → zW p l e R s m args below meth c D B0 8 (zEnd D B0 R below args s (zoI r) h') h 2 [(0, .ref p0), (1, .int p1), (2, .int p2)] [] := by
  intro n
  induction n with
  | zero =>
    intro p0 p1 p2 h hf
    unfold f_X6_connected_l2 at hf
    cases hf
  | succ n ih =>
    intro p0 p1 p2 h hf
    unfold f_X6_connected_l2 at hf
    refine zr_iload_n C0 dX6_connected_2 rfl 2 rfl ?_
    refine zr_sipush C0 (v := 900) dX6_connected_3 (by decide) ?_
    refine zr_icmp_ge C0 (tgt := 31) dX6_connected_6 (by decide) (fun c1 => ?_) (fun c1 => ?_)
    · have hf := zif_t c1 hf
      exact w_X6_connected_b31 C0 hf
    · have hf := zif_f c1 hf
      refine zr_aload_n C0 dX6_connected_9 rfl 0 rfl ?_
      obtain ⟨x2, e3, hf⟩ := zbind hf
      refine zr_get C0 fl_X6_9_X6 dX6_connected_10 (zgR e3) ?_
      refine zr_sipush C0 (v := 250) dX6_connected_13 (by decide) ?_
      refine zr_iload_n C0 dX6_connected_16 rfl 2 rfl ?_
      refine zr_iadd C0 dX6_connected_17 ?_
      obtain ⟨x4, e5, hf⟩ := zbind hf
      refine zr_lald C0 dX6_connected_18 e5 ?_
      refine zr_iload_n C0 dX6_connected_19 rfl 1 rfl ?_
      refine zr_i2l C0 dX6_connected_20 ?_
      refine zr_lcmp C0 dX6_connected_21 ?_
      refine zr_if_eq C0 (tgt := 31) dX6_connected_22 (by decide) (fun c6 => ?_) (fun c6 => ?_)
      · have hf := zif_t (zl_eq.mp c6) hf
        exact w_X6_connected_b31 C0 hf
      · have hf := zif_f (zl_eqn.mp c6) hf
        refine zr_iinc (lv' := [(2, .int (p2 + 1)), (0, .ref p0), (1, .int p1)]) C0 dX6_connected_25 2 rfl rfl (by decide) (by first | rfl | simp [zst1, zst2, zcat_rf]) ?_
        refine zr_goto C0 (tgt := 2) dX6_connected_28 (by decide) ?_
        refine zr_sub [1, 2, 0] rfl ?_
        exact ih _ _ _ _ hf
def f_X6_connected_b0 (E : zE) (p0 : Nat) (p1 : Int32) (h : zH) : Option (Int32 × zH) :=
  f_X6_connected_l2 E E.1 p0 p1 (0 : Int32) h
theorem w_X6_connected_b0 (C0 : zCx p l e R s m args below meth c D B0 8 "FranchiseLedgerModel" cX6_connected E 4 128 (Option.some Jvm.ClassFile.FieldType.boolean) "connected") {r : Int32} {h' : zH} {p0 : Nat} {p1 : Int32} {h : zH} (hf : f_X6_connected_b0 E p0 p1 h = some (r, h')) : zW p l e R s m args below meth c D B0 8 (zEnd D B0 R below args s (zoI r) h') h 0 [(0, .ref p0), (1, .int p1)] [] := by
  unfold f_X6_connected_b0 at hf
  refine zr_iconst C0 (v := 0) dX6_connected_0 (by decide) ?_
  refine zr_istore_n (i := 2) (lv' := [(2, .int (0 : Int32)), (0, .ref p0), (1, .int p1)]) C0 dX6_connected_1 rfl (by decide) (by first | rfl | simp [zst1, zst2, zcat_rf]) ?_
  refine zr_sub [1, 2, 0] rfl ?_
  exact w_X6_connected_l2 C0 _ _ _ _ _ hf
def f_X6_connected (E : zE) (p0 : Nat) (p1 : Int32) (h : zH) : Option (Int32 × zH) := f_X6_connected_b0 E p0 p1 h
theorem m_X6_connected {l : Launch} (hst : l.stackTraces = false) {D : zD} {B0 : Nat} {E : zE} {p0 : Nat} {p1 : Int32} {h h' : zH} {r : Int32} (hf : f_X6_connected E p0 p1 h = some (r, h')) : zMet l yX6_connected (ws_ yX6_connected cX6_connected 8 (Option.some Jvm.ClassFile.FieldType.boolean)) 4 128 D B0 E [.ref p0, .int p1] h (zoI r) h' := by
  unfold f_X6_connected at hf
  refine zMet_of hst (by decide +kernel) rfl rfl (Nat.le_of_ble_eq_true rfl) (fun p e R s m below meth c C0 hno => ?_)
  show zW _ _ _ _ _ _ _ _ _ _ _ _ _ _ _ _ [(0, .ref p0), (1, .int p1)] []
  exact w_X6_connected_b0 C0 hf
def f_X6_isConnected_b39 (E : zE) (s0 : Int32) (h : zH) : Option (Int32 × zH) :=
  (zgd .boolean s0).bind fun _ =>
  some (s0, h)
theorem w_X6_isConnected_b39 (C0 : zCx p l e R s m args below meth c D B0 2 "FranchiseLedgerModel" cX6_isConnected E 5 155 (Option.some Jvm.ClassFile.FieldType.boolean) "isConnected") {r : Int32} {h' : zH} {s0 : Int32} {h : zH} (hf : f_X6_isConnected_b39 E s0 h = some (r, h')) : zW p l e R s m args below meth c D B0 2 (zEnd D B0 R below args s (zoI r) h') h 39 [] [.int s0] := by
  unfold f_X6_isConnected_b39 at hf
  obtain ⟨_, e1, hf⟩ := zbind hf
  refine zretW hf ?_
  exact zr_iret C0 (ty := .boolean) rfl (zgd_n e1) dX6_isConnected_39 rfl
def f_X6_isConnected_b38 (E : zE) (h : zH) : Option (Int32 × zH) :=
  f_X6_isConnected_b39 E (0 : Int32) h
theorem w_X6_isConnected_b38 (C0 : zCx p l e R s m args below meth c D B0 2 "FranchiseLedgerModel" cX6_isConnected E 5 155 (Option.some Jvm.ClassFile.FieldType.boolean) "isConnected") {r : Int32} {h' : zH} {h : zH} (hf : f_X6_isConnected_b38 E  h = some (r, h')) : zW p l e R s m args below meth c D B0 2 (zEnd D B0 R below args s (zoI r) h') h 38 [] [] := by
  unfold f_X6_isConnected_b38 at hf
  refine zr_iconst C0 (v := 0) dX6_isConnected_38 (by decide) ?_
  exact w_X6_isConnected_b39 C0 hf
def f_X6_isConnected_b19 (E : zE) (p0 : Nat) (p1 : Int32) (s0 : Nat) (s1 : Int32) (h : zH) : Option (Int32 × zH) :=
  (cko h s0 1).bind fun _ =>
  bnd2 (f_X6_throwsIf E s0 s1 (1 : Int32) h) fun x4 h2 =>
  if x4 = 0 then (
    (cko h2 p0 1).bind fun _ =>
    bnd2 (f_X6_connected E p0 p1 h2) fun x9 h7 =>
    if x9 = 0 then (
      f_X6_isConnected_b38 E  h7
    ) else (
      f_X6_isConnected_b39 E (1 : Int32) h7
    )
  ) else (
    f_X6_isConnected_b38 E  h2
  )
theorem w_X6_isConnected_b19 (C0 : zCx p l e R s m args below meth c D B0 2 "FranchiseLedgerModel" cX6_isConnected E 5 155 (Option.some Jvm.ClassFile.FieldType.boolean) "isConnected") {r : Int32} {h' : zH} {p0 : Nat} {p1 : Int32} {s0 : Nat} {s1 : Int32} {h : zH} (hf : f_X6_isConnected_b19 E p0 p1 s0 s1 h = some (r, h')) : zW p l e R s m args below meth c D B0 2 (zEnd D B0 R below args s (zoI r) h') h 19 [(0, .ref p0), (1, .int p1)] [.int s1, .ref s0] := by
  unfold f_X6_isConnected_b19 at hf
  refine zr_iconst C0 (v := 1) dX6_isConnected_19 (by decide) ?_
  obtain ⟨_, e1, hf⟩ := zbind hf
  obtain ⟨x4, h2, e3, hf⟩ := zbind2 hf
  refine zr_callV_r C0 cv_X6_81_X6 rfl (zcko e1) (m_X6_throwsIf C0.2.2.2.2.2.2.1 e3) (by decide) (by decide) rfl rfl (Nat.le_of_ble_eq_true rfl) dX6_isConnected_20 rfl ?_
  refine zr_if_ne C0 (tgt := 38) dX6_isConnected_23 (by decide) (fun c5 => ?_) (fun c5 => ?_)
  · have hf := zif_f c5 hf
    refine zr_sub [] rfl ?_
    exact w_X6_isConnected_b38 C0 hf
  · have hf := zif_t c5 hf
    refine zr_aload_n C0 dX6_isConnected_26 rfl 0 rfl ?_
    refine zr_iload_n C0 dX6_isConnected_27 rfl 1 rfl ?_
    obtain ⟨_, e6, hf⟩ := zbind hf
    obtain ⟨x9, h7, e8, hf⟩ := zbind2 hf
    refine zr_callV_r C0 cv_X6_104_X6 rfl (zcko e6) (m_X6_connected C0.2.2.2.2.2.2.1 e8) (by decide) (by decide) rfl rfl (Nat.le_of_ble_eq_true rfl) dX6_isConnected_28 rfl ?_
    refine zr_if_eq C0 (tgt := 38) dX6_isConnected_31 (by decide) (fun c10 => ?_) (fun c10 => ?_)
    · have hf := zif_t c10 hf
      refine zr_sub [] rfl ?_
      exact w_X6_isConnected_b38 C0 hf
    · have hf := zif_f c10 hf
      refine zr_iconst C0 (v := 1) dX6_isConnected_34 (by decide) ?_
      refine zr_goto C0 (tgt := 39) dX6_isConnected_35 (by decide) ?_
      refine zr_sub [] rfl ?_
      exact w_X6_isConnected_b39 C0 hf
def f_X6_isConnected_b0 (E : zE) (p0 : Nat) (p1 : Int32) (h : zH) : Option (Int32 × zH) :=
  (pF h p0 1 2 (.int (0 : Int32))).bind fun h1 =>
  (cko h1 p0 1).bind fun _ =>
  bnd2 (f_X6_isFranchisee E p0 p1 h1) fun x6 h4 =>
  if x6 = 0 then (
    f_X6_isConnected_b19 E p0 p1 p0 (1 : Int32) h4
  ) else (
    f_X6_isConnected_b19 E p0 p1 p0 (0 : Int32) h4
  )
theorem w_X6_isConnected_b0 (C0 : zCx p l e R s m args below meth c D B0 2 "FranchiseLedgerModel" cX6_isConnected E 5 155 (Option.some Jvm.ClassFile.FieldType.boolean) "isConnected") {r : Int32} {h' : zH} {p0 : Nat} {p1 : Int32} {h : zH} (hf : f_X6_isConnected_b0 E p0 p1 h = some (r, h')) : zW p l e R s m args below meth c D B0 2 (zEnd D B0 R below args s (zoI r) h') h 0 [(0, .ref p0), (1, .int p1)] [] := by
  unfold f_X6_isConnected_b0 at hf
  refine zr_aload_n C0 dX6_isConnected_0 rfl 0 rfl ?_
  refine zr_iconst C0 (v := 0) dX6_isConnected_1 (by decide) ?_
  obtain ⟨h1, e2, hf⟩ := zbind hf
  refine zr_put C0 pl_X6_50_X6 dX6_isConnected_2 (fun h => by cases h) rfl rfl e2 ?_
  refine zr_aload_n C0 dX6_isConnected_5 rfl 0 rfl ?_
  refine zr_aload_n C0 dX6_isConnected_6 rfl 0 rfl ?_
  refine zr_iload_n C0 dX6_isConnected_7 rfl 1 rfl ?_
  obtain ⟨_, e3, hf⟩ := zbind hf
  obtain ⟨x6, h4, e5, hf⟩ := zbind2 hf
  refine zr_callV_r C0 cv_X6_85_X6 rfl (zcko e3) (m_X6_isFranchisee C0.2.2.2.2.2.2.1 e5) (by decide) (by decide) rfl rfl (Nat.le_of_ble_eq_true rfl) dX6_isConnected_8 rfl ?_
  refine zr_if_ne C0 (tgt := 18) dX6_isConnected_11 (by decide) (fun c7 => ?_) (fun c7 => ?_)
  · have hf := zif_f c7 hf
    refine zr_iconst C0 (v := 0) dX6_isConnected_18 (by decide) ?_
    exact w_X6_isConnected_b19 C0 hf
  · have hf := zif_t c7 hf
    refine zr_iconst C0 (v := 1) dX6_isConnected_14 (by decide) ?_
    refine zr_goto C0 (tgt := 19) dX6_isConnected_15 (by decide) ?_
    exact w_X6_isConnected_b19 C0 hf
def f_X6_isConnected (E : zE) (p0 : Nat) (p1 : Int32) (h : zH) : Option (Int32 × zH) := f_X6_isConnected_b0 E p0 p1 h
theorem m_X6_isConnected {l : Launch} (hst : l.stackTraces = false) {D : zD} {B0 : Nat} {E : zE} {p0 : Nat} {p1 : Int32} {h h' : zH} {r : Int32} (hf : f_X6_isConnected E p0 p1 h = some (r, h')) : zMet l yX6_isConnected (ws_ yX6_isConnected cX6_isConnected 2 (Option.some Jvm.ClassFile.FieldType.boolean)) 5 155 D B0 E [.ref p0, .int p1] h (zoI r) h' := by
  unfold f_X6_isConnected at hf
  refine zMet_of hst (by decide +kernel) rfl rfl (Nat.le_of_ble_eq_true rfl) (fun p e R s m below meth c C0 hno => ?_)
  show zW _ _ _ _ _ _ _ _ _ _ _ _ _ _ _ _ [(0, .ref p0), (1, .int p1)] []
  exact w_X6_isConnected_b0 C0 hf
def f_X6_size_b10 (E : zE) (s0 : Int32) (h : zH) : Option (Int32 × zH) :=
  some (s0, h)
theorem w_X6_size_b10 (C0 : zCx p l e R s m args below meth c D B0 1 "FranchiseLedgerModel" cX6_size E 1 60 (Option.some Jvm.ClassFile.FieldType.int) "size") {r : Int32} {h' : zH} {s0 : Int32} {h : zH} (hf : f_X6_size_b10 E s0 h = some (r, h')) : zW p l e R s m args below meth c D B0 1 (zEnd D B0 R below args s (zoI r) h') h 10 [] [.int s0] := by
  unfold f_X6_size_b10 at hf
  refine zretW hf ?_
  exact zr_iret C0 (ty := .int) rfl rfl dX6_size_10 rfl
def f_X6_size_b0 (E : zE) (p0 : Int32) (h : zH) : Option (Int32 × zH) :=
  if 0 ≤ p0 then (
    f_X6_size_b10 E p0 h
  ) else (
    f_X6_size_b10 E (-p0) h
  )
theorem w_X6_size_b0 (C0 : zCx p l e R s m args below meth c D B0 1 "FranchiseLedgerModel" cX6_size E 1 60 (Option.some Jvm.ClassFile.FieldType.int) "size") {r : Int32} {h' : zH} {p0 : Int32} {h : zH} (hf : f_X6_size_b0 E p0 h = some (r, h')) : zW p l e R s m args below meth c D B0 1 (zEnd D B0 R below args s (zoI r) h') h 0 [(0, .int p0)] [] := by
  unfold f_X6_size_b0 at hf
  refine zr_iload_n C0 dX6_size_0 rfl 0 rfl ?_
  refine zr_if_ge C0 (tgt := 9) dX6_size_1 (by decide) (fun c1 => ?_) (fun c1 => ?_)
  · have hf := zif_t c1 hf
    refine zr_iload_n C0 dX6_size_9 rfl 0 rfl ?_
    refine zr_sub [] rfl ?_
    exact w_X6_size_b10 C0 hf
  · have hf := zif_f c1 hf
    refine zr_iload_n C0 dX6_size_4 rfl 0 rfl ?_
    refine zr_ineg C0 dX6_size_5 ?_
    refine zr_goto C0 (tgt := 10) dX6_size_6 (by decide) ?_
    refine zr_sub [] rfl ?_
    exact w_X6_size_b10 C0 hf
def f_X6_size (E : zE) (p0 : Int32) (h : zH) : Option (Int32 × zH) := f_X6_size_b0 E p0 h
theorem m_X6_size {l : Launch} (hst : l.stackTraces = false) {D : zD} {B0 : Nat} {E : zE} {p0 : Int32} {h h' : zH} {r : Int32} (hf : f_X6_size E p0 h = some (r, h')) : zMet l yX6_size (ws_ yX6_size cX6_size 1 (Option.some Jvm.ClassFile.FieldType.int)) 1 60 D B0 E [.int p0] h (zoI r) h' := by
  unfold f_X6_size at hf
  refine zMet_of hst (by decide +kernel) rfl rfl (Nat.le_of_ble_eq_true rfl) (fun p e R s m below meth c C0 hno => ?_)
  show zW _ _ _ _ _ _ _ _ _ _ _ _ _ _ _ _ [(0, .int p0)] []
  exact w_X6_size_b0 C0 hf
def f_X6_apart_b0 (E : zE) (p0 : Int32) (p1 : Int32) (p2 : Int32) (h : zH) : Option (Int32 × zH) :=
  bnd2 (f_X6_size E (p0 - (p2 - p2 / (30 : Int32) * (30 : Int32))) h) fun x3 h1 =>
  bnd2 (f_X6_size E (p1 - (p2 / (30 : Int32))) h1) fun x6 h4 =>
  some ((x3 + x6), h4)
theorem w_X6_apart_b0 (C0 : zCx p l e R s m args below meth c D B0 3 "FranchiseLedgerModel" cX6_apart E 2 80 (Option.some Jvm.ClassFile.FieldType.int) "apart") {r : Int32} {h' : zH} {p0 : Int32} {p1 : Int32} {p2 : Int32} {h : zH} (hf : f_X6_apart_b0 E p0 p1 p2 h = some (r, h')) : zW p l e R s m args below meth c D B0 3 (zEnd D B0 R below args s (zoI r) h') h 0 [(0, .int p0), (1, .int p1), (2, .int p2)] [] := by
  unfold f_X6_apart_b0 at hf
  refine zr_iload_n C0 dX6_apart_0 rfl 0 rfl ?_
  refine zr_iload_n C0 dX6_apart_1 rfl 2 rfl ?_
  refine zr_bipush C0 (v := 30) dX6_apart_2 (by decide) ?_
  refine zr_irem C0 dX6_apart_4 (by decide) ?_
  refine zr_isub C0 dX6_apart_5 ?_
  obtain ⟨x3, h1, e2, hf⟩ := zbind2 hf
  refine zr_callS_r C0 cv_X6_107 (m_X6_size C0.2.2.2.2.2.2.1 e2) (by decide) (by decide) rfl rfl (Nat.le_of_ble_eq_true rfl) dX6_apart_6 rfl ?_
  refine zr_iload_n C0 dX6_apart_9 rfl 1 rfl ?_
  refine zr_iload_n C0 dX6_apart_10 rfl 2 rfl ?_
  refine zr_bipush C0 (v := 30) dX6_apart_11 (by decide) ?_
  refine zr_idiv C0 dX6_apart_13 (by decide) ?_
  refine zr_isub C0 dX6_apart_14 ?_
  obtain ⟨x6, h4, e5, hf⟩ := zbind2 hf
  refine zr_callS_r C0 cv_X6_107 (m_X6_size C0.2.2.2.2.2.2.1 e5) (by decide) (by decide) rfl rfl (Nat.le_of_ble_eq_true rfl) dX6_apart_15 rfl ?_
  refine zr_iadd C0 dX6_apart_18 ?_
  refine zretW hf ?_
  exact zr_iret C0 (ty := .int) rfl rfl dX6_apart_19 rfl
def f_X6_apart (E : zE) (p0 : Int32) (p1 : Int32) (p2 : Int32) (h : zH) : Option (Int32 × zH) := f_X6_apart_b0 E p0 p1 p2 h
theorem m_X6_apart {l : Launch} (hst : l.stackTraces = false) {D : zD} {B0 : Nat} {E : zE} {p0 : Int32} {p1 : Int32} {p2 : Int32} {h h' : zH} {r : Int32} (hf : f_X6_apart E p0 p1 p2 h = some (r, h')) : zMet l yX6_apart (ws_ yX6_apart cX6_apart 3 (Option.some Jvm.ClassFile.FieldType.int)) 2 80 D B0 E [.int p0, .int p1, .int p2] h (zoI r) h' := by
  unfold f_X6_apart at hf
  refine zMet_of hst (by decide +kernel) rfl rfl (Nat.le_of_ble_eq_true rfl) (fun p e R s m below meth c C0 hno => ?_)
  show zW _ _ _ _ _ _ _ _ _ _ _ _ _ _ _ _ [(0, .int p0), (1, .int p1), (2, .int p2)] []
  exact w_X6_apart_b0 C0 hf
def f_X6_distance_b47 (E : zE) (h : zH) : Option (Int32 × zH) :=
  some ((0 : Int32), h)
theorem w_X6_distance_b47 (C0 : zCx p l e R s m args below meth c D B0 6 "FranchiseLedgerModel" cX6_distance E 3 106 (Option.some Jvm.ClassFile.FieldType.int) "distance") {r : Int32} {h' : zH} {h : zH} (hf : f_X6_distance_b47 E  h = some (r, h')) : zW p l e R s m args below meth c D B0 6 (zEnd D B0 R below args s (zoI r) h') h 47 [] [] := by
  unfold f_X6_distance_b47 at hf
  refine zr_iconst C0 (v := 0) dX6_distance_47 (by decide) ?_
  refine zretW hf ?_
  exact zr_iret C0 (ty := .int) rfl rfl dX6_distance_48 rfl
def f_X6_distance_b107 (E : zE) (k55 : Nat → Int32 → Int32 → Int32 → Int32 → Int32 → zH → Option (Int32 × zH)) (p0 : Nat) (p1 : Int32) (p2 : Int32) (p3 : Int32) (p4 : Int32) (p5 : Int32) (h : zH) : Option (Int32 × zH) :=
  k55 p0 p1 p2 p3 p4 (p5 + 1) h
theorem w_X6_distance_b107 (C0 : zCx p l e R s m args below meth c D B0 6 "FranchiseLedgerModel" cX6_distance E 3 106 (Option.some Jvm.ClassFile.FieldType.int) "distance") {r : Int32} {h' : zH} {k55 : Nat → Int32 → Int32 → Int32 → Int32 → Int32 → zH → Option (Int32 × zH)} (hk55 : ∀ (p0 : Nat) (p1 : Int32) (p2 : Int32) (p3 : Int32) (p4 : Int32) (p5 : Int32) (h : zH), k55 p0 p1 p2 p3 p4 p5 h = some (r, h') → zW p l e R s m args below meth c D B0 6 (zEnd D B0 R below args s (zoI r) h') h 55 [(0, .ref p0), (1, .int p1), (2, .int p2), (3, .int p3), (4, .int p4), (5, .int p5)] []) {p0 : Nat} {p1 : Int32} {p2 : Int32} {p3 : Int32} {p4 : Int32} {p5 : Int32} {h : zH} (hf : f_X6_distance_b107 E k55 p0 p1 p2 p3 p4 p5 h = some (r, h')) : zW p l e R s m args below meth c D B0 6 (zEnd D B0 R below args s (zoI r) h') h 107 [(0, .ref p0), (1, .int p1), (2, .int p2), (3, .int p3), (4, .int p4), (5, .int p5)] [] := by
  unfold f_X6_distance_b107 at hf
  refine zr_iinc (lv' := [(5, .int (p5 + 1)), (0, .ref p0), (1, .int p1), (2, .int p2), (3, .int p3), (4, .int p4)]) C0 dX6_distance_107 5 rfl rfl (by decide) (by first | rfl | simp [zst1, zst2, zcat_rf]) ?_
  refine zr_goto C0 (tgt := 55) dX6_distance_110 (by decide) ?_
  refine zr_sub [1, 2, 3, 4, 5, 0] rfl ?_
  exact hk55 _ _ _ _ _ _ _ hf
def f_X6_distance_b98 (E : zE) (k55 : Nat → Int32 → Int32 → Int32 → Int32 → Int32 → zH → Option (Int32 × zH)) (p0 : Nat) (p1 : Int32) (p2 : Int32) (p3 : Int32) (p5 : Int32) (h : zH) : Option (Int32 × zH) :=
  bnd2 (f_X6_apart E p2 p3 p5 h) fun x3 h1 =>
  f_X6_distance_b107 E k55 p0 p1 p2 p3 x3 p5 h1
theorem w_X6_distance_b98 (C0 : zCx p l e R s m args below meth c D B0 6 "FranchiseLedgerModel" cX6_distance E 3 106 (Option.some Jvm.ClassFile.FieldType.int) "distance") {r : Int32} {h' : zH} {k55 : Nat → Int32 → Int32 → Int32 → Int32 → Int32 → zH → Option (Int32 × zH)} (hk55 : ∀ (p0 : Nat) (p1 : Int32) (p2 : Int32) (p3 : Int32) (p4 : Int32) (p5 : Int32) (h : zH), k55 p0 p1 p2 p3 p4 p5 h = some (r, h') → zW p l e R s m args below meth c D B0 6 (zEnd D B0 R below args s (zoI r) h') h 55 [(0, .ref p0), (1, .int p1), (2, .int p2), (3, .int p3), (4, .int p4), (5, .int p5)] []) {p0 : Nat} {p1 : Int32} {p2 : Int32} {p3 : Int32} {p5 : Int32} {h : zH} (hf : f_X6_distance_b98 E k55 p0 p1 p2 p3 p5 h = some (r, h')) : zW p l e R s m args below meth c D B0 6 (zEnd D B0 R below args s (zoI r) h') h 98 [(0, .ref p0), (1, .int p1), (2, .int p2), (3, .int p3), (5, .int p5)] [] := by
  unfold f_X6_distance_b98 at hf
  refine zr_iload_n C0 dX6_distance_98 rfl 2 rfl ?_
  refine zr_iload_n C0 dX6_distance_99 rfl 3 rfl ?_
  refine zr_iload C0 dX6_distance_100 4 rfl ?_
  obtain ⟨x3, h1, e2, hf⟩ := zbind2 hf
  refine zr_callS_r C0 cv_X6_110 (m_X6_apart C0.2.2.2.2.2.2.1 e2) (by decide) (by decide) rfl rfl (Nat.le_of_ble_eq_true rfl) dX6_distance_102 rfl ?_
  refine zr_istore (i := 4) (lv' := [(4, .int x3), (0, .ref p0), (1, .int p1), (2, .int p2), (3, .int p3), (5, .int p5)]) C0 dX6_distance_105 (by decide) (by first | rfl | simp [zst1, zst2, zcat_rf]) ?_
  refine zr_sub [1, 2, 3, 4, 0, 5] rfl ?_
  exact w_X6_distance_b107 C0 hk55 hf
def f_X6_distance_l55 (E : zE) : Nat → Nat → Int32 → Int32 → Int32 → Int32 → Int32 → zH → Option (Int32 × zH)
  | 0, _, _, _, _, _, _, _ => none
  | n + 1, p0, p1, p2, p3, p4, p5, h =>
    if (900 : Int32) ≤ p5 then (
      some (p4, h)
    ) else (
      (gR h p0 1 0).bind fun x2 =>
      (dL h x2 ((250 : Int32) + p5)).bind fun x4 =>
      if x4 = (p1.toInt64) then (
        if p4 = (-1 : Int32) then (
          f_X6_distance_b98 E (f_X6_distance_l55 E n) p0 p1 p2 p3 p5 h
        ) else (
          bnd2 (f_X6_apart E p2 p3 p5 h) fun x10 h8 =>
          if p4 ≤ x10 then (
            f_X6_distance_b107 E (f_X6_distance_l55 E n) p0 p1 p2 p3 p4 p5 h8
          ) else (
            f_X6_distance_b98 E (f_X6_distance_l55 E n) p0 p1 p2 p3 p5 h8
          )
        )
      ) else (
        f_X6_distance_b107 E (f_X6_distance_l55 E n) p0 p1 p2 p3 p4 p5 h
      )
    )
theorem w_X6_distance_l55 (C0 : zCx p l e R s m args below meth c D B0 6 "FranchiseLedgerModel" cX6_distance E 3 106 (Option.some Jvm.ClassFile.FieldType.int) "distance") {r : Int32} {h' : zH} : ∀ (n : Nat) (p0 : Nat) (p1 : Int32) (p2 : Int32) (p3 : Int32) (p4 : Int32) (p5 : Int32) (h : zH), f_X6_distance_l55 E n p0 p1 p2 p3 p4 p5 h = some (r, h') → zW p l e R s m args below meth c D B0 6 (zEnd D B0 R below args s (zoI r) h') h 55 [(0, .ref p0), (1, .int p1), (2, .int p2), (3, .int p3), (4, .int p4), (5, .int p5)] [] := by
  intro n
  induction n with
  | zero =>
    intro p0 p1 p2 p3 p4 p5 h hf
    unfold f_X6_distance_l55 at hf
    cases hf
  | succ n ih =>
    intro p0 p1 p2 p3 p4 p5 h hf
    unfold f_X6_distance_l55 at hf
    refine zr_iload C0 dX6_distance_55 5 rfl ?_
    refine zr_sipush C0 (v := 900) dX6_distance_57 (by decide) ?_
    refine zr_icmp_ge C0 (tgt := 113) dX6_distance_60 (by decide) (fun c1 => ?_) (fun c1 => ?_)
    · have hf := zif_t c1 hf
      refine zr_iload C0 dX6_distance_113 4 rfl ?_
      refine zretW hf ?_
      exact zr_iret C0 (ty := .int) rfl rfl dX6_distance_115 rfl
    · have hf := zif_f c1 hf
      refine zr_aload_n C0 dX6_distance_63 rfl 0 rfl ?_
      obtain ⟨x2, e3, hf⟩ := zbind hf
      refine zr_get C0 fl_X6_9_X6 dX6_distance_64 (zgR e3) ?_
      refine zr_sipush C0 (v := 250) dX6_distance_67 (by decide) ?_
      refine zr_iload C0 dX6_distance_70 5 rfl ?_
      refine zr_iadd C0 dX6_distance_72 ?_
      obtain ⟨x4, e5, hf⟩ := zbind hf
      refine zr_lald C0 dX6_distance_73 e5 ?_
      refine zr_iload_n C0 dX6_distance_74 rfl 1 rfl ?_
      refine zr_i2l C0 dX6_distance_75 ?_
      refine zr_lcmp C0 dX6_distance_76 ?_
      refine zr_if_ne C0 (tgt := 107) dX6_distance_77 (by decide) (fun c6 => ?_) (fun c6 => ?_)
      · have hf := zif_f (zl_ne.mp c6) hf
        exact w_X6_distance_b107 C0 ih hf
      · have hf := zif_t (zl_nen.mp c6) hf
        refine zr_iload C0 dX6_distance_80 4 rfl ?_
        refine zr_iconst C0 (v := -1) dX6_distance_82 (by decide) ?_
        refine zr_icmp_eq C0 (tgt := 98) dX6_distance_83 (by decide) (fun c7 => ?_) (fun c7 => ?_)
        · have hf := zif_t c7 hf
          refine zr_sub [0, 1, 2, 3, 5] rfl ?_
          exact w_X6_distance_b98 C0 ih hf
        · have hf := zif_f c7 hf
          refine zr_iload_n C0 dX6_distance_86 rfl 2 rfl ?_
          refine zr_iload_n C0 dX6_distance_87 rfl 3 rfl ?_
          refine zr_iload C0 dX6_distance_88 5 rfl ?_
          obtain ⟨x10, h8, e9, hf⟩ := zbind2 hf
          refine zr_callS_r C0 cv_X6_110 (m_X6_apart C0.2.2.2.2.2.2.1 e9) (by decide) (by decide) rfl rfl (Nat.le_of_ble_eq_true rfl) dX6_distance_90 rfl ?_
          refine zr_iload C0 dX6_distance_93 4 rfl ?_
          refine zr_icmp_ge C0 (tgt := 107) dX6_distance_95 (by decide) (fun c11 => ?_) (fun c11 => ?_)
          · have hf := zif_t c11 hf
            exact w_X6_distance_b107 C0 ih hf
          · have hf := zif_f c11 hf
            refine zr_sub [0, 1, 2, 3, 5] rfl ?_
            exact w_X6_distance_b98 C0 ih hf
def f_X6_distance_b40 (E : zE) (p0 : Nat) (p1 : Int32) (p2 : Int32) (p3 : Int32) (s0 : Nat) (s1 : Int32) (h : zH) : Option (Int32 × zH) :=
  (cko h s0 1).bind fun _ =>
  bnd2 (f_X6_throwsIf E s0 s1 (2 : Int32) h) fun x4 h2 =>
  if x4 = 0 then (
    f_X6_distance_l55 E E.1 p0 p1 p2 p3 (-1 : Int32) (0 : Int32) h2
  ) else (
    f_X6_distance_b47 E  h2
  )
theorem w_X6_distance_b40 (C0 : zCx p l e R s m args below meth c D B0 6 "FranchiseLedgerModel" cX6_distance E 3 106 (Option.some Jvm.ClassFile.FieldType.int) "distance") {r : Int32} {h' : zH} {p0 : Nat} {p1 : Int32} {p2 : Int32} {p3 : Int32} {s0 : Nat} {s1 : Int32} {h : zH} (hf : f_X6_distance_b40 E p0 p1 p2 p3 s0 s1 h = some (r, h')) : zW p l e R s m args below meth c D B0 6 (zEnd D B0 R below args s (zoI r) h') h 40 [(0, .ref p0), (1, .int p1), (2, .int p2), (3, .int p3)] [.int s1, .ref s0] := by
  unfold f_X6_distance_b40 at hf
  refine zr_iconst C0 (v := 2) dX6_distance_40 (by decide) ?_
  obtain ⟨_, e1, hf⟩ := zbind hf
  obtain ⟨x4, h2, e3, hf⟩ := zbind2 hf
  refine zr_callV_r C0 cv_X6_81_X6 rfl (zcko e1) (m_X6_throwsIf C0.2.2.2.2.2.2.1 e3) (by decide) (by decide) rfl rfl (Nat.le_of_ble_eq_true rfl) dX6_distance_41 rfl ?_
  refine zr_if_eq C0 (tgt := 49) dX6_distance_44 (by decide) (fun c5 => ?_) (fun c5 => ?_)
  · have hf := zif_t c5 hf
    refine zr_iconst C0 (v := -1) dX6_distance_49 (by decide) ?_
    refine zr_istore (i := 4) (lv' := [(4, .int (-1 : Int32)), (0, .ref p0), (1, .int p1), (2, .int p2), (3, .int p3)]) C0 dX6_distance_50 (by decide) (by first | rfl | simp [zst1, zst2, zcat_rf]) ?_
    refine zr_iconst C0 (v := 0) dX6_distance_52 (by decide) ?_
    refine zr_istore (i := 5) (lv' := [(5, .int (0 : Int32)), (4, .int (-1 : Int32)), (0, .ref p0), (1, .int p1), (2, .int p2), (3, .int p3)]) C0 dX6_distance_53 (by decide) (by first | rfl | simp [zst1, zst2, zcat_rf]) ?_
    refine zr_sub [2, 3, 4, 5, 1, 0] rfl ?_
    exact w_X6_distance_l55 C0 _ _ _ _ _ _ _ _ hf
  · have hf := zif_f c5 hf
    refine zr_sub [] rfl ?_
    exact w_X6_distance_b47 C0 hf
def f_X6_distance_b19 (E : zE) (p0 : Nat) (p1 : Int32) (p2 : Int32) (p3 : Int32) (s0 : Nat) (s1 : Int32) (h : zH) : Option (Int32 × zH) :=
  (cko h s0 1).bind fun _ =>
  bnd2 (f_X6_throwsIf E s0 s1 (1 : Int32) h) fun x4 h2 =>
  if x4 = 0 then (
    bnd2 (f_X6_isCell E p2 p3 h2) fun x8 h6 =>
    if x8 = 0 then (
      f_X6_distance_b40 E p0 p1 p2 p3 p0 (1 : Int32) h6
    ) else (
      f_X6_distance_b40 E p0 p1 p2 p3 p0 (0 : Int32) h6
    )
  ) else (
    f_X6_distance_b47 E  h2
  )
theorem w_X6_distance_b19 (C0 : zCx p l e R s m args below meth c D B0 6 "FranchiseLedgerModel" cX6_distance E 3 106 (Option.some Jvm.ClassFile.FieldType.int) "distance") {r : Int32} {h' : zH} {p0 : Nat} {p1 : Int32} {p2 : Int32} {p3 : Int32} {s0 : Nat} {s1 : Int32} {h : zH} (hf : f_X6_distance_b19 E p0 p1 p2 p3 s0 s1 h = some (r, h')) : zW p l e R s m args below meth c D B0 6 (zEnd D B0 R below args s (zoI r) h') h 19 [(0, .ref p0), (1, .int p1), (2, .int p2), (3, .int p3)] [.int s1, .ref s0] := by
  unfold f_X6_distance_b19 at hf
  refine zr_iconst C0 (v := 1) dX6_distance_19 (by decide) ?_
  obtain ⟨_, e1, hf⟩ := zbind hf
  obtain ⟨x4, h2, e3, hf⟩ := zbind2 hf
  refine zr_callV_r C0 cv_X6_81_X6 rfl (zcko e1) (m_X6_throwsIf C0.2.2.2.2.2.2.1 e3) (by decide) (by decide) rfl rfl (Nat.le_of_ble_eq_true rfl) dX6_distance_20 rfl ?_
  refine zr_if_ne C0 (tgt := 47) dX6_distance_23 (by decide) (fun c5 => ?_) (fun c5 => ?_)
  · have hf := zif_f c5 hf
    refine zr_sub [] rfl ?_
    exact w_X6_distance_b47 C0 hf
  · have hf := zif_t c5 hf
    refine zr_aload_n C0 dX6_distance_26 rfl 0 rfl ?_
    refine zr_iload_n C0 dX6_distance_27 rfl 2 rfl ?_
    refine zr_iload_n C0 dX6_distance_28 rfl 3 rfl ?_
    obtain ⟨x8, h6, e7, hf⟩ := zbind2 hf
    refine zr_callS_r C0 cv_X6_67 (m_X6_isCell C0.2.2.2.2.2.2.1 e7) (by decide) (by decide) rfl rfl (Nat.le_of_ble_eq_true rfl) dX6_distance_29 rfl ?_
    refine zr_if_ne C0 (tgt := 39) dX6_distance_32 (by decide) (fun c9 => ?_) (fun c9 => ?_)
    · have hf := zif_f c9 hf
      refine zr_iconst C0 (v := 0) dX6_distance_39 (by decide) ?_
      exact w_X6_distance_b40 C0 hf
    · have hf := zif_t c9 hf
      refine zr_iconst C0 (v := 1) dX6_distance_35 (by decide) ?_
      refine zr_goto C0 (tgt := 40) dX6_distance_36 (by decide) ?_
      exact w_X6_distance_b40 C0 hf
def f_X6_distance_b0 (E : zE) (p0 : Nat) (p1 : Int32) (p2 : Int32) (p3 : Int32) (h : zH) : Option (Int32 × zH) :=
  (pF h p0 1 2 (.int (0 : Int32))).bind fun h1 =>
  (cko h1 p0 1).bind fun _ =>
  bnd2 (f_X6_isFranchisee E p0 p1 h1) fun x6 h4 =>
  if x6 = 0 then (
    f_X6_distance_b19 E p0 p1 p2 p3 p0 (1 : Int32) h4
  ) else (
    f_X6_distance_b19 E p0 p1 p2 p3 p0 (0 : Int32) h4
  )
theorem w_X6_distance_b0 (C0 : zCx p l e R s m args below meth c D B0 6 "FranchiseLedgerModel" cX6_distance E 3 106 (Option.some Jvm.ClassFile.FieldType.int) "distance") {r : Int32} {h' : zH} {p0 : Nat} {p1 : Int32} {p2 : Int32} {p3 : Int32} {h : zH} (hf : f_X6_distance_b0 E p0 p1 p2 p3 h = some (r, h')) : zW p l e R s m args below meth c D B0 6 (zEnd D B0 R below args s (zoI r) h') h 0 [(0, .ref p0), (1, .int p1), (2, .int p2), (3, .int p3)] [] := by
  unfold f_X6_distance_b0 at hf
  refine zr_aload_n C0 dX6_distance_0 rfl 0 rfl ?_
  refine zr_iconst C0 (v := 0) dX6_distance_1 (by decide) ?_
  obtain ⟨h1, e2, hf⟩ := zbind hf
  refine zr_put C0 pl_X6_50_X6 dX6_distance_2 (fun h => by cases h) rfl rfl e2 ?_
  refine zr_aload_n C0 dX6_distance_5 rfl 0 rfl ?_
  refine zr_aload_n C0 dX6_distance_6 rfl 0 rfl ?_
  refine zr_iload_n C0 dX6_distance_7 rfl 1 rfl ?_
  obtain ⟨_, e3, hf⟩ := zbind hf
  obtain ⟨x6, h4, e5, hf⟩ := zbind2 hf
  refine zr_callV_r C0 cv_X6_85_X6 rfl (zcko e3) (m_X6_isFranchisee C0.2.2.2.2.2.2.1 e5) (by decide) (by decide) rfl rfl (Nat.le_of_ble_eq_true rfl) dX6_distance_8 rfl ?_
  refine zr_if_ne C0 (tgt := 18) dX6_distance_11 (by decide) (fun c7 => ?_) (fun c7 => ?_)
  · have hf := zif_f c7 hf
    refine zr_iconst C0 (v := 0) dX6_distance_18 (by decide) ?_
    exact w_X6_distance_b19 C0 hf
  · have hf := zif_t c7 hf
    refine zr_iconst C0 (v := 1) dX6_distance_14 (by decide) ?_
    refine zr_goto C0 (tgt := 19) dX6_distance_15 (by decide) ?_
    exact w_X6_distance_b19 C0 hf
def f_X6_distance (E : zE) (p0 : Nat) (p1 : Int32) (p2 : Int32) (p3 : Int32) (h : zH) : Option (Int32 × zH) := f_X6_distance_b0 E p0 p1 p2 p3 h
theorem m_X6_distance {l : Launch} (hst : l.stackTraces = false) {D : zD} {B0 : Nat} {E : zE} {p0 : Nat} {p1 : Int32} {p2 : Int32} {p3 : Int32} {h h' : zH} {r : Int32} (hf : f_X6_distance E p0 p1 p2 p3 h = some (r, h')) : zMet l yX6_distance (ws_ yX6_distance cX6_distance 6 (Option.some Jvm.ClassFile.FieldType.int)) 3 106 D B0 E [.ref p0, .int p1, .int p2, .int p3] h (zoI r) h' := by
  unfold f_X6_distance at hf
  refine zMet_of hst (by decide +kernel) rfl rfl (Nat.le_of_ble_eq_true rfl) (fun p e R s m below meth c C0 hno => ?_)
  show zW _ _ _ _ _ _ _ _ _ _ _ _ _ _ _ _ [(0, .ref p0), (1, .int p1), (2, .int p2), (3, .int p3)] []
  exact w_X6_distance_b0 C0 hf
def f_X6_isArea_b43 (E : zE) (s0 : Int32) (h : zH) : Option (Int32 × zH) :=
  (zgd .boolean s0).bind fun _ =>
  some (s0, h)
theorem w_X6_isArea_b43 (C0 : zCx p l e R s m args below meth c D B0 4 "FranchiseLedgerModel" cX6_isArea E 3 106 (Option.some Jvm.ClassFile.FieldType.boolean) "isArea") {r : Int32} {h' : zH} {s0 : Int32} {h : zH} (hf : f_X6_isArea_b43 E s0 h = some (r, h')) : zW p l e R s m args below meth c D B0 4 (zEnd D B0 R below args s (zoI r) h') h 43 [] [.int s0] := by
  unfold f_X6_isArea_b43 at hf
  obtain ⟨_, e1, hf⟩ := zbind hf
  refine zretW hf ?_
  exact zr_iret C0 (ty := .boolean) rfl (zgd_n e1) dX6_isArea_43 rfl
def f_X6_isArea_b42 (E : zE) (h : zH) : Option (Int32 × zH) :=
  f_X6_isArea_b43 E (0 : Int32) h
theorem w_X6_isArea_b42 (C0 : zCx p l e R s m args below meth c D B0 4 "FranchiseLedgerModel" cX6_isArea E 3 106 (Option.some Jvm.ClassFile.FieldType.boolean) "isArea") {r : Int32} {h' : zH} {h : zH} (hf : f_X6_isArea_b42 E  h = some (r, h')) : zW p l e R s m args below meth c D B0 4 (zEnd D B0 R below args s (zoI r) h') h 42 [] [] := by
  unfold f_X6_isArea_b42 at hf
  refine zr_iconst C0 (v := 0) dX6_isArea_42 (by decide) ?_
  exact w_X6_isArea_b43 C0 hf
def f_X6_isArea_b0 (E : zE) (p0 : Int32) (p1 : Int32) (p2 : Int32) (p3 : Int32) (h : zH) : Option (Int32 × zH) :=
  bnd2 (f_X6_isCell E p0 p1 h) fun x3 h1 =>
  if x3 = 0 then (
    f_X6_isArea_b42 E  h1
  ) else (
    bnd2 (f_X6_inRange E (p2.toInt64) ((p0 + (1 : Int32)).toInt64) (30 : Int64) h1) fun x7 h5 =>
    if x7 = 0 then (
      f_X6_isArea_b42 E  h5
    ) else (
      bnd2 (f_X6_inRange E (p3.toInt64) ((p1 + (1 : Int32)).toInt64) (30 : Int64) h5) fun x11 h9 =>
      if x11 = 0 then (
        f_X6_isArea_b42 E  h9
      ) else (
        f_X6_isArea_b43 E (1 : Int32) h9
      )
    )
  )
theorem w_X6_isArea_b0 (C0 : zCx p l e R s m args below meth c D B0 4 "FranchiseLedgerModel" cX6_isArea E 3 106 (Option.some Jvm.ClassFile.FieldType.boolean) "isArea") {r : Int32} {h' : zH} {p0 : Int32} {p1 : Int32} {p2 : Int32} {p3 : Int32} {h : zH} (hf : f_X6_isArea_b0 E p0 p1 p2 p3 h = some (r, h')) : zW p l e R s m args below meth c D B0 4 (zEnd D B0 R below args s (zoI r) h') h 0 [(0, .int p0), (1, .int p1), (2, .int p2), (3, .int p3)] [] := by
  unfold f_X6_isArea_b0 at hf
  refine zr_iload_n C0 dX6_isArea_0 rfl 0 rfl ?_
  refine zr_iload_n C0 dX6_isArea_1 rfl 1 rfl ?_
  obtain ⟨x3, h1, e2, hf⟩ := zbind2 hf
  refine zr_callS_r C0 cv_X6_67 (m_X6_isCell C0.2.2.2.2.2.2.1 e2) (by decide) (by decide) rfl rfl (Nat.le_of_ble_eq_true rfl) dX6_isArea_2 rfl ?_
  refine zr_if_eq C0 (tgt := 42) dX6_isArea_5 (by decide) (fun c4 => ?_) (fun c4 => ?_)
  · have hf := zif_t c4 hf
    refine zr_sub [] rfl ?_
    exact w_X6_isArea_b42 C0 hf
  · have hf := zif_f c4 hf
    refine zr_iload_n C0 dX6_isArea_8 rfl 2 rfl ?_
    refine zr_i2l C0 dX6_isArea_9 ?_
    refine zr_iload_n C0 dX6_isArea_10 rfl 0 rfl ?_
    refine zr_iconst C0 (v := 1) dX6_isArea_11 (by decide) ?_
    refine zr_iadd C0 dX6_isArea_12 ?_
    refine zr_i2l C0 dX6_isArea_13 ?_
    refine zr_ldc2 C0 (v := 30) q2708 dX6_isArea_14 ?_
    obtain ⟨x7, h5, e6, hf⟩ := zbind2 hf
    refine zr_callS_r C0 cv_X6_53 (m_X6_inRange C0.2.2.2.2.2.2.1 e6) (by decide) (by decide) rfl rfl (Nat.le_of_ble_eq_true rfl) dX6_isArea_17 rfl ?_
    refine zr_if_eq C0 (tgt := 42) dX6_isArea_20 (by decide) (fun c8 => ?_) (fun c8 => ?_)
    · have hf := zif_t c8 hf
      refine zr_sub [] rfl ?_
      exact w_X6_isArea_b42 C0 hf
    · have hf := zif_f c8 hf
      refine zr_iload_n C0 dX6_isArea_23 rfl 3 rfl ?_
      refine zr_i2l C0 dX6_isArea_24 ?_
      refine zr_iload_n C0 dX6_isArea_25 rfl 1 rfl ?_
      refine zr_iconst C0 (v := 1) dX6_isArea_26 (by decide) ?_
      refine zr_iadd C0 dX6_isArea_27 ?_
      refine zr_i2l C0 dX6_isArea_28 ?_
      refine zr_ldc2 C0 (v := 30) q2708 dX6_isArea_29 ?_
      obtain ⟨x11, h9, e10, hf⟩ := zbind2 hf
      refine zr_callS_r C0 cv_X6_53 (m_X6_inRange C0.2.2.2.2.2.2.1 e10) (by decide) (by decide) rfl rfl (Nat.le_of_ble_eq_true rfl) dX6_isArea_32 rfl ?_
      refine zr_if_eq C0 (tgt := 42) dX6_isArea_35 (by decide) (fun c12 => ?_) (fun c12 => ?_)
      · have hf := zif_t c12 hf
        refine zr_sub [] rfl ?_
        exact w_X6_isArea_b42 C0 hf
      · have hf := zif_f c12 hf
        refine zr_iconst C0 (v := 1) dX6_isArea_38 (by decide) ?_
        refine zr_goto C0 (tgt := 43) dX6_isArea_39 (by decide) ?_
        refine zr_sub [] rfl ?_
        exact w_X6_isArea_b43 C0 hf
def f_X6_isArea (E : zE) (p0 : Int32) (p1 : Int32) (p2 : Int32) (p3 : Int32) (h : zH) : Option (Int32 × zH) := f_X6_isArea_b0 E p0 p1 p2 p3 h
theorem m_X6_isArea {l : Launch} (hst : l.stackTraces = false) {D : zD} {B0 : Nat} {E : zE} {p0 : Int32} {p1 : Int32} {p2 : Int32} {p3 : Int32} {h h' : zH} {r : Int32} (hf : f_X6_isArea E p0 p1 p2 p3 h = some (r, h')) : zMet l yX6_isArea (ws_ yX6_isArea cX6_isArea 4 (Option.some Jvm.ClassFile.FieldType.boolean)) 3 106 D B0 E [.int p0, .int p1, .int p2, .int p3] h (zoI r) h' := by
  unfold f_X6_isArea at hf
  refine zMet_of hst (by decide +kernel) rfl rfl (Nat.le_of_ble_eq_true rfl) (fun p e R s m below meth c C0 hno => ?_)
  show zW _ _ _ _ _ _ _ _ _ _ _ _ _ _ _ _ [(0, .int p0), (1, .int p1), (2, .int p2), (3, .int p3)] []
  exact w_X6_isArea_b0 C0 hf
def f_X6_of_b0 (E : zE) (p0 : Nat) (p1 : Int32) (p2 : Int32) (h : zH) : Option (Int64 × zH) :=
  (gR h p0 1 0).bind fun x1 =>
  (dL h x1 (((58 : Int32) + ((16 : Int32) * p1)) + p2)).bind fun x3 =>
  some (x3, h)
theorem w_X6_of_b0 (C0 : zCx p l e R s m args below meth c D B0 3 "FranchiseLedgerModel" cX6_of E 1 60 (Option.some Jvm.ClassFile.FieldType.long) "of") {r : Int64} {h' : zH} {p0 : Nat} {p1 : Int32} {p2 : Int32} {h : zH} (hf : f_X6_of_b0 E p0 p1 p2 h = some (r, h')) : zW p l e R s m args below meth c D B0 3 (zEnd D B0 R below args s (zoL r) h') h 0 [(0, .ref p0), (1, .int p1), (2, .int p2)] [] := by
  unfold f_X6_of_b0 at hf
  refine zr_aload_n C0 dX6_of_0 rfl 0 rfl ?_
  obtain ⟨x1, e2, hf⟩ := zbind hf
  refine zr_get C0 fl_X6_9_X6 dX6_of_1 (zgR e2) ?_
  refine zr_bipush C0 (v := 58) dX6_of_4 (by decide) ?_
  refine zr_bipush C0 (v := 16) dX6_of_6 (by decide) ?_
  refine zr_iload_n C0 dX6_of_8 rfl 1 rfl ?_
  refine zr_imul C0 dX6_of_9 ?_
  refine zr_iadd C0 dX6_of_10 ?_
  refine zr_iload_n C0 dX6_of_11 rfl 2 rfl ?_
  refine zr_iadd C0 dX6_of_12 ?_
  obtain ⟨x3, e4, hf⟩ := zbind hf
  refine zr_lald C0 dX6_of_13 e4 ?_
  refine zretW hf ?_
  exact zr_lret C0 rfl dX6_of_14 rfl
def f_X6_of (E : zE) (p0 : Nat) (p1 : Int32) (p2 : Int32) (h : zH) : Option (Int64 × zH) := f_X6_of_b0 E p0 p1 p2 h
theorem m_X6_of {l : Launch} (hst : l.stackTraces = false) {D : zD} {B0 : Nat} {E : zE} {p0 : Nat} {p1 : Int32} {p2 : Int32} {h h' : zH} {r : Int64} (hf : f_X6_of E p0 p1 p2 h = some (r, h')) : zMet l yX6_of (ws_ yX6_of cX6_of 3 (Option.some Jvm.ClassFile.FieldType.long)) 1 60 D B0 E [.ref p0, .int p1, .int p2] h (zoL r) h' := by
  unfold f_X6_of at hf
  refine zMet_of hst (by decide +kernel) rfl rfl (Nat.le_of_ble_eq_true rfl) (fun p e R s m below meth c C0 hno => ?_)
  show zW _ _ _ _ _ _ _ _ _ _ _ _ _ _ _ _ [(0, .ref p0), (1, .int p1), (2, .int p2)] []
  exact w_X6_of_b0 C0 hf
def f_X6_isActive_b16 (E : zE) (s0 : Int32) (h : zH) : Option (Int32 × zH) :=
  (zgd .boolean s0).bind fun _ =>
  some (s0, h)
theorem w_X6_isActive_b16 (C0 : zCx p l e R s m args below meth c D B0 2 "FranchiseLedgerModel" cX6_isActive E 2 82 (Option.some Jvm.ClassFile.FieldType.boolean) "isActive") {r : Int32} {h' : zH} {s0 : Int32} {h : zH} (hf : f_X6_isActive_b16 E s0 h = some (r, h')) : zW p l e R s m args below meth c D B0 2 (zEnd D B0 R below args s (zoI r) h') h 16 [] [.int s0] := by
  unfold f_X6_isActive_b16 at hf
  obtain ⟨_, e1, hf⟩ := zbind hf
  refine zretW hf ?_
  exact zr_iret C0 (ty := .boolean) rfl (zgd_n e1) dX6_isActive_16 rfl
def f_X6_isActive_b0 (E : zE) (p0 : Nat) (p1 : Int32) (h : zH) : Option (Int32 × zH) :=
  (cko h p0 1).bind fun _ =>
  bnd2 (f_X6_of E p0 p1 (3 : Int32) h) fun x4 h2 =>
  if x4 = (0 : Int64) then (
    f_X6_isActive_b16 E (1 : Int32) h2
  ) else (
    f_X6_isActive_b16 E (0 : Int32) h2
  )
theorem w_X6_isActive_b0 (C0 : zCx p l e R s m args below meth c D B0 2 "FranchiseLedgerModel" cX6_isActive E 2 82 (Option.some Jvm.ClassFile.FieldType.boolean) "isActive") {r : Int32} {h' : zH} {p0 : Nat} {p1 : Int32} {h : zH} (hf : f_X6_isActive_b0 E p0 p1 h = some (r, h')) : zW p l e R s m args below meth c D B0 2 (zEnd D B0 R below args s (zoI r) h') h 0 [(0, .ref p0), (1, .int p1)] [] := by
  unfold f_X6_isActive_b0 at hf
  refine zr_aload_n C0 dX6_isActive_0 rfl 0 rfl ?_
  refine zr_iload_n C0 dX6_isActive_1 rfl 1 rfl ?_
  refine zr_iconst C0 (v := 3) dX6_isActive_2 (by decide) ?_
  obtain ⟨_, e1, hf⟩ := zbind hf
  obtain ⟨x4, h2, e3, hf⟩ := zbind2 hf
  refine zr_callV_r C0 cv_X6_63_X6 rfl (zcko e1) (m_X6_of C0.2.2.2.2.2.2.1 e3) (by decide) (by decide) rfl rfl (Nat.le_of_ble_eq_true rfl) dX6_isActive_3 rfl ?_
  refine zr_lconst C0 (v := 0) dX6_isActive_6 (by decide) ?_
  refine zr_lcmp C0 dX6_isActive_7 ?_
  refine zr_if_ne C0 (tgt := 15) dX6_isActive_8 (by decide) (fun c5 => ?_) (fun c5 => ?_)
  · have hf := zif_f (zl_ne.mp c5) hf
    refine zr_iconst C0 (v := 0) dX6_isActive_15 (by decide) ?_
    refine zr_sub [] rfl ?_
    exact w_X6_isActive_b16 C0 hf
  · have hf := zif_t (zl_nen.mp c5) hf
    refine zr_iconst C0 (v := 1) dX6_isActive_11 (by decide) ?_
    refine zr_goto C0 (tgt := 16) dX6_isActive_12 (by decide) ?_
    refine zr_sub [] rfl ?_
    exact w_X6_isActive_b16 C0 hf
def f_X6_isActive (E : zE) (p0 : Nat) (p1 : Int32) (h : zH) : Option (Int32 × zH) := f_X6_isActive_b0 E p0 p1 h
theorem m_X6_isActive {l : Launch} (hst : l.stackTraces = false) {D : zD} {B0 : Nat} {E : zE} {p0 : Nat} {p1 : Int32} {h h' : zH} {r : Int32} (hf : f_X6_isActive E p0 p1 h = some (r, h')) : zMet l yX6_isActive (ws_ yX6_isActive cX6_isActive 2 (Option.some Jvm.ClassFile.FieldType.boolean)) 2 82 D B0 E [.ref p0, .int p1] h (zoI r) h' := by
  unfold f_X6_isActive at hf
  refine zMet_of hst (by decide +kernel) rfl rfl (Nat.le_of_ble_eq_true rfl) (fun p e R s m below meth c C0 hno => ?_)
  show zW _ _ _ _ _ _ _ _ _ _ _ _ _ _ _ _ [(0, .ref p0), (1, .int p1)] []
  exact w_X6_isActive_b0 C0 hf
def f_X6_give_b30 (E : zE) (k2 : Nat → Int32 → Int32 → zH → Option (Unit × zH)) (p0 : Nat) (p1 : Int32) (p2 : Int32) (h : zH) : Option (Unit × zH) :=
  k2 p0 p1 (p2 + 1) h
theorem w_X6_give_b30 (C0 : zCx p l e R s m args below meth c D B0 3 "FranchiseLedgerModel" cX6_give E 1 60 (Option.none : Option Jvm.ClassFile.FieldType) "give") {r : Unit} {h' : zH} {k2 : Nat → Int32 → Int32 → zH → Option (Unit × zH)} (hk2 : ∀ (p0 : Nat) (p1 : Int32) (p2 : Int32) (h : zH), k2 p0 p1 p2 h = some (r, h') → zW p l e R s m args below meth c D B0 3 (zEnd D B0 R below args s (zoV r) h') h 2 [(0, .ref p0), (1, .int p1), (2, .int p2)] []) {p0 : Nat} {p1 : Int32} {p2 : Int32} {h : zH} (hf : f_X6_give_b30 E k2 p0 p1 p2 h = some (r, h')) : zW p l e R s m args below meth c D B0 3 (zEnd D B0 R below args s (zoV r) h') h 30 [(0, .ref p0), (1, .int p1), (2, .int p2)] [] := by
  unfold f_X6_give_b30 at hf
  refine zr_iinc (lv' := [(2, .int (p2 + 1)), (0, .ref p0), (1, .int p1)]) C0 dX6_give_30 2 rfl rfl (by decide) (by first | rfl | simp [zst1, zst2, zcat_rf]) ?_
  refine zr_goto C0 (tgt := 2) dX6_give_33 (by decide) ?_
  refine zr_sub [1, 2, 0] rfl ?_
  exact hk2 _ _ _ _ hf
def f_X6_give_l2 (E : zE) : Nat → Nat → Int32 → Int32 → zH → Option (Unit × zH)
  | 0, _, _, _, _ => none
  | n + 1, p0, p1, p2, h =>
    if (900 : Int32) ≤ p2 then (
      some ((), h)
    ) else (
      (gR h p0 1 4).bind fun x2 =>
      (dI h x2 3 p2).bind fun x4 =>
      if x4 = 0 then (
        f_X6_give_b30 E (f_X6_give_l2 E n) p0 p1 p2 h
      ) else (
        (gR h p0 1 0).bind fun x7 =>
        (sL h x7 ((250 : Int32) + p2) (p1.toInt64)).bind fun h9 =>
        f_X6_give_b30 E (f_X6_give_l2 E n) p0 p1 p2 h9
      )
    )
theorem w_X6_give_l2 (C0 : zCx p l e R s m args below meth c D B0 3 "FranchiseLedgerModel" cX6_give E 1 60 (Option.none : Option Jvm.ClassFile.FieldType) "give") {r : Unit} {h' : zH} : ∀ (n : Nat) (p0 : Nat) (p1 : Int32) (p2 : Int32) (h : zH), f_X6_give_l2 E n p0 p1 p2 h = some (r, h') → zW p l e R s m args below meth c D B0 3 (zEnd D B0 R below args s (zoV r) h') h 2 [(0, .ref p0), (1, .int p1), (2, .int p2)] [] := by
  intro n
  induction n with
  | zero =>
    intro p0 p1 p2 h hf
    unfold f_X6_give_l2 at hf
    cases hf
  | succ n ih =>
    intro p0 p1 p2 h hf
    unfold f_X6_give_l2 at hf
    refine zr_iload_n C0 dX6_give_2 rfl 2 rfl ?_
    refine zr_sipush C0 (v := 900) dX6_give_3 (by decide) ?_
    refine zr_icmp_ge C0 (tgt := 36) dX6_give_6 (by decide) (fun c1 => ?_) (fun c1 => ?_)
    · have hf := zif_t c1 hf
      refine zretW hf ?_
      exact zr_vret C0 rfl dX6_give_36 rfl
    · have hf := zif_f c1 hf
      refine zr_aload_n C0 dX6_give_9 rfl 0 rfl ?_
      obtain ⟨x2, e3, hf⟩ := zbind hf
      refine zr_get C0 fl_X6_20_X6 dX6_give_10 (zgR e3) ?_
      refine zr_iload_n C0 dX6_give_13 rfl 2 rfl ?_
      obtain ⟨x4, e5, hf⟩ := zbind hf
      refine zr_zald C0 dX6_give_14 e5 ?_
      refine zr_if_eq C0 (tgt := 30) dX6_give_15 (by decide) (fun c6 => ?_) (fun c6 => ?_)
      · have hf := zif_t c6 hf
        exact w_X6_give_b30 C0 ih hf
      · have hf := zif_f c6 hf
        refine zr_aload_n C0 dX6_give_18 rfl 0 rfl ?_
        obtain ⟨x7, e8, hf⟩ := zbind hf
        refine zr_get C0 fl_X6_9_X6 dX6_give_19 (zgR e8) ?_
        refine zr_sipush C0 (v := 250) dX6_give_22 (by decide) ?_
        refine zr_iload_n C0 dX6_give_25 rfl 2 rfl ?_
        refine zr_iadd C0 dX6_give_26 ?_
        refine zr_iload_n C0 dX6_give_27 rfl 1 rfl ?_
        refine zr_i2l C0 dX6_give_28 ?_
        obtain ⟨h9, e10, hf⟩ := zbind hf
        refine zr_last C0 dX6_give_29 e10 ?_
        exact w_X6_give_b30 C0 ih hf
def f_X6_give_b0 (E : zE) (p0 : Nat) (p1 : Int32) (h : zH) : Option (Unit × zH) :=
  f_X6_give_l2 E E.1 p0 p1 (0 : Int32) h
theorem w_X6_give_b0 (C0 : zCx p l e R s m args below meth c D B0 3 "FranchiseLedgerModel" cX6_give E 1 60 (Option.none : Option Jvm.ClassFile.FieldType) "give") {r : Unit} {h' : zH} {p0 : Nat} {p1 : Int32} {h : zH} (hf : f_X6_give_b0 E p0 p1 h = some (r, h')) : zW p l e R s m args below meth c D B0 3 (zEnd D B0 R below args s (zoV r) h') h 0 [(0, .ref p0), (1, .int p1)] [] := by
  unfold f_X6_give_b0 at hf
  refine zr_iconst C0 (v := 0) dX6_give_0 (by decide) ?_
  refine zr_istore_n (i := 2) (lv' := [(2, .int (0 : Int32)), (0, .ref p0), (1, .int p1)]) C0 dX6_give_1 rfl (by decide) (by first | rfl | simp [zst1, zst2, zcat_rf]) ?_
  refine zr_sub [1, 2, 0] rfl ?_
  exact w_X6_give_l2 C0 _ _ _ _ _ hf
def f_X6_give (E : zE) (p0 : Nat) (p1 : Int32) (h : zH) : Option (Unit × zH) := f_X6_give_b0 E p0 p1 h
theorem m_X6_give {l : Launch} (hst : l.stackTraces = false) {D : zD} {B0 : Nat} {E : zE} {p0 : Nat} {p1 : Int32} {h h' : zH} {r : Unit} (hf : f_X6_give E p0 p1 h = some (r, h')) : zMet l yX6_give (ws_ yX6_give cX6_give 3 (Option.none : Option Jvm.ClassFile.FieldType)) 1 60 D B0 E [.ref p0, .int p1] h (zoV r) h' := by
  unfold f_X6_give at hf
  refine zMet_of hst (by decide +kernel) rfl rfl (Nat.le_of_ble_eq_true rfl) (fun p e R s m below meth c C0 hno => ?_)
  show zW _ _ _ _ _ _ _ _ _ _ _ _ _ _ _ _ [(0, .ref p0), (1, .int p1)] []
  exact w_X6_give_b0 C0 hf
def f_X6_isWithin_b38 (E : zE) (s0 : Int32) (h : zH) : Option (Int32 × zH) :=
  (zgd .boolean s0).bind fun _ =>
  some (s0, h)
theorem w_X6_isWithin_b38 (C0 : zCx p l e R s m args below meth c D B0 5 "FranchiseLedgerModel" cX6_isWithin E 1 60 (Option.some Jvm.ClassFile.FieldType.boolean) "isWithin") {r : Int32} {h' : zH} {s0 : Int32} {h : zH} (hf : f_X6_isWithin_b38 E s0 h = some (r, h')) : zW p l e R s m args below meth c D B0 5 (zEnd D B0 R below args s (zoI r) h') h 38 [] [.int s0] := by
  unfold f_X6_isWithin_b38 at hf
  obtain ⟨_, e1, hf⟩ := zbind hf
  refine zretW hf ?_
  exact zr_iret C0 (ty := .boolean) rfl (zgd_n e1) dX6_isWithin_38 rfl
def f_X6_isWithin_b37 (E : zE) (h : zH) : Option (Int32 × zH) :=
  f_X6_isWithin_b38 E (0 : Int32) h
theorem w_X6_isWithin_b37 (C0 : zCx p l e R s m args below meth c D B0 5 "FranchiseLedgerModel" cX6_isWithin E 1 60 (Option.some Jvm.ClassFile.FieldType.boolean) "isWithin") {r : Int32} {h' : zH} {h : zH} (hf : f_X6_isWithin_b37 E  h = some (r, h')) : zW p l e R s m args below meth c D B0 5 (zEnd D B0 R below args s (zoI r) h') h 37 [] [] := by
  unfold f_X6_isWithin_b37 at hf
  refine zr_iconst C0 (v := 0) dX6_isWithin_37 (by decide) ?_
  exact w_X6_isWithin_b38 C0 hf
def f_X6_isWithin_b0 (E : zE) (p0 : Int32) (p1 : Int32) (p2 : Int32) (p3 : Int32) (p4 : Int32) (h : zH) : Option (Int32 × zH) :=
  if (p0 - p0 / (30 : Int32) * (30 : Int32)) < p1 then (
    f_X6_isWithin_b37 E  h
  ) else (
    if p3 ≤ (p0 - p0 / (30 : Int32) * (30 : Int32)) then (
      f_X6_isWithin_b37 E  h
    ) else (
      if (p0 / (30 : Int32)) < p2 then (
        f_X6_isWithin_b37 E  h
      ) else (
        if p4 ≤ (p0 / (30 : Int32)) then (
          f_X6_isWithin_b37 E  h
        ) else (
          f_X6_isWithin_b38 E (1 : Int32) h
        )
      )
    )
  )
theorem w_X6_isWithin_b0 (C0 : zCx p l e R s m args below meth c D B0 5 "FranchiseLedgerModel" cX6_isWithin E 1 60 (Option.some Jvm.ClassFile.FieldType.boolean) "isWithin") {r : Int32} {h' : zH} {p0 : Int32} {p1 : Int32} {p2 : Int32} {p3 : Int32} {p4 : Int32} {h : zH} (hf : f_X6_isWithin_b0 E p0 p1 p2 p3 p4 h = some (r, h')) : zW p l e R s m args below meth c D B0 5 (zEnd D B0 R below args s (zoI r) h') h 0 [(0, .int p0), (1, .int p1), (2, .int p2), (3, .int p3), (4, .int p4)] [] := by
  unfold f_X6_isWithin_b0 at hf
  refine zr_iload_n C0 dX6_isWithin_0 rfl 0 rfl ?_
  refine zr_bipush C0 (v := 30) dX6_isWithin_1 (by decide) ?_
  refine zr_irem C0 dX6_isWithin_3 (by decide) ?_
  refine zr_iload_n C0 dX6_isWithin_4 rfl 1 rfl ?_
  refine zr_icmp_lt C0 (tgt := 37) dX6_isWithin_5 (by decide) (fun c1 => ?_) (fun c1 => ?_)
  · have hf := zif_t c1 hf
    refine zr_sub [] rfl ?_
    exact w_X6_isWithin_b37 C0 hf
  · have hf := zif_f c1 hf
    refine zr_iload_n C0 dX6_isWithin_8 rfl 0 rfl ?_
    refine zr_bipush C0 (v := 30) dX6_isWithin_9 (by decide) ?_
    refine zr_irem C0 dX6_isWithin_11 (by decide) ?_
    refine zr_iload_n C0 dX6_isWithin_12 rfl 3 rfl ?_
    refine zr_icmp_ge C0 (tgt := 37) dX6_isWithin_13 (by decide) (fun c2 => ?_) (fun c2 => ?_)
    · have hf := zif_t c2 hf
      refine zr_sub [] rfl ?_
      exact w_X6_isWithin_b37 C0 hf
    · have hf := zif_f c2 hf
      refine zr_iload_n C0 dX6_isWithin_16 rfl 0 rfl ?_
      refine zr_bipush C0 (v := 30) dX6_isWithin_17 (by decide) ?_
      refine zr_idiv C0 dX6_isWithin_19 (by decide) ?_
      refine zr_iload_n C0 dX6_isWithin_20 rfl 2 rfl ?_
      refine zr_icmp_lt C0 (tgt := 37) dX6_isWithin_21 (by decide) (fun c3 => ?_) (fun c3 => ?_)
      · have hf := zif_t c3 hf
        refine zr_sub [] rfl ?_
        exact w_X6_isWithin_b37 C0 hf
      · have hf := zif_f c3 hf
        refine zr_iload_n C0 dX6_isWithin_24 rfl 0 rfl ?_
        refine zr_bipush C0 (v := 30) dX6_isWithin_25 (by decide) ?_
        refine zr_idiv C0 dX6_isWithin_27 (by decide) ?_
        refine zr_iload C0 dX6_isWithin_28 4 rfl ?_
        refine zr_icmp_ge C0 (tgt := 37) dX6_isWithin_30 (by decide) (fun c4 => ?_) (fun c4 => ?_)
        · have hf := zif_t c4 hf
          refine zr_sub [] rfl ?_
          exact w_X6_isWithin_b37 C0 hf
        · have hf := zif_f c4 hf
          refine zr_iconst C0 (v := 1) dX6_isWithin_33 (by decide) ?_
          refine zr_goto C0 (tgt := 38) dX6_isWithin_34 (by decide) ?_
          refine zr_sub [] rfl ?_
          exact w_X6_isWithin_b38 C0 hf
def f_X6_isWithin (E : zE) (p0 : Int32) (p1 : Int32) (p2 : Int32) (p3 : Int32) (p4 : Int32) (h : zH) : Option (Int32 × zH) := f_X6_isWithin_b0 E p0 p1 p2 p3 p4 h
theorem m_X6_isWithin {l : Launch} (hst : l.stackTraces = false) {D : zD} {B0 : Nat} {E : zE} {p0 : Int32} {p1 : Int32} {p2 : Int32} {p3 : Int32} {p4 : Int32} {h h' : zH} {r : Int32} (hf : f_X6_isWithin E p0 p1 p2 p3 p4 h = some (r, h')) : zMet l yX6_isWithin (ws_ yX6_isWithin cX6_isWithin 5 (Option.some Jvm.ClassFile.FieldType.boolean)) 1 60 D B0 E [.int p0, .int p1, .int p2, .int p3, .int p4] h (zoI r) h' := by
  unfold f_X6_isWithin at hf
  refine zMet_of hst (by decide +kernel) rfl rfl (Nat.le_of_ble_eq_true rfl) (fun p e R s m below meth c C0 hno => ?_)
  show zW _ _ _ _ _ _ _ _ _ _ _ _ _ _ _ _ [(0, .int p0), (1, .int p1), (2, .int p2), (3, .int p3), (4, .int p4)] []
  exact w_X6_isWithin_b0 C0 hf
def f_X6_ofOutlet_b0 (E : zE) (p0 : Nat) (p1 : Int32) (p2 : Int32) (h : zH) : Option (Int64 × zH) :=
  (gR h p0 1 0).bind fun x1 =>
  (dL h x1 (((186 : Int32) + ((4 : Int32) * p1)) + p2)).bind fun x3 =>
  some (x3, h)
theorem w_X6_ofOutlet_b0 (C0 : zCx p l e R s m args below meth c D B0 3 "FranchiseLedgerModel" cX6_ofOutlet E 1 60 (Option.some Jvm.ClassFile.FieldType.long) "ofOutlet") {r : Int64} {h' : zH} {p0 : Nat} {p1 : Int32} {p2 : Int32} {h : zH} (hf : f_X6_ofOutlet_b0 E p0 p1 p2 h = some (r, h')) : zW p l e R s m args below meth c D B0 3 (zEnd D B0 R below args s (zoL r) h') h 0 [(0, .ref p0), (1, .int p1), (2, .int p2)] [] := by
  unfold f_X6_ofOutlet_b0 at hf
  refine zr_aload_n C0 dX6_ofOutlet_0 rfl 0 rfl ?_
  obtain ⟨x1, e2, hf⟩ := zbind hf
  refine zr_get C0 fl_X6_9_X6 dX6_ofOutlet_1 (zgR e2) ?_
  refine zr_sipush C0 (v := 186) dX6_ofOutlet_4 (by decide) ?_
  refine zr_iconst C0 (v := 4) dX6_ofOutlet_7 (by decide) ?_
  refine zr_iload_n C0 dX6_ofOutlet_8 rfl 1 rfl ?_
  refine zr_imul C0 dX6_ofOutlet_9 ?_
  refine zr_iadd C0 dX6_ofOutlet_10 ?_
  refine zr_iload_n C0 dX6_ofOutlet_11 rfl 2 rfl ?_
  refine zr_iadd C0 dX6_ofOutlet_12 ?_
  obtain ⟨x3, e4, hf⟩ := zbind hf
  refine zr_lald C0 dX6_ofOutlet_13 e4 ?_
  refine zretW hf ?_
  exact zr_lret C0 rfl dX6_ofOutlet_14 rfl
def f_X6_ofOutlet (E : zE) (p0 : Nat) (p1 : Int32) (p2 : Int32) (h : zH) : Option (Int64 × zH) := f_X6_ofOutlet_b0 E p0 p1 p2 h
theorem m_X6_ofOutlet {l : Launch} (hst : l.stackTraces = false) {D : zD} {B0 : Nat} {E : zE} {p0 : Nat} {p1 : Int32} {p2 : Int32} {h h' : zH} {r : Int64} (hf : f_X6_ofOutlet E p0 p1 p2 h = some (r, h')) : zMet l yX6_ofOutlet (ws_ yX6_ofOutlet cX6_ofOutlet 3 (Option.some Jvm.ClassFile.FieldType.long)) 1 60 D B0 E [.ref p0, .int p1, .int p2] h (zoL r) h' := by
  unfold f_X6_ofOutlet at hf
  refine zMet_of hst (by decide +kernel) rfl rfl (Nat.le_of_ble_eq_true rfl) (fun p e R s m below meth c C0 hno => ?_)
  show zW _ _ _ _ _ _ _ _ _ _ _ _ _ _ _ _ [(0, .ref p0), (1, .int p1), (2, .int p2)] []
  exact w_X6_ofOutlet_b0 C0 hf
def f_X6_isOpen_b18 (E : zE) (s0 : Int32) (h : zH) : Option (Int32 × zH) :=
  (zgd .boolean s0).bind fun _ =>
  some (s0, h)
theorem w_X6_isOpen_b18 (C0 : zCx p l e R s m args below meth c D B0 2 "FranchiseLedgerModel" cX6_isOpen E 2 82 (Option.some Jvm.ClassFile.FieldType.boolean) "isOpen") {r : Int32} {h' : zH} {s0 : Int32} {h : zH} (hf : f_X6_isOpen_b18 E s0 h = some (r, h')) : zW p l e R s m args below meth c D B0 2 (zEnd D B0 R below args s (zoI r) h') h 18 [] [.int s0] := by
  unfold f_X6_isOpen_b18 at hf
  obtain ⟨_, e1, hf⟩ := zbind hf
  refine zretW hf ?_
  exact zr_iret C0 (ty := .boolean) rfl (zgd_n e1) dX6_isOpen_18 rfl
def f_X6_isOpen_b0 (E : zE) (p0 : Nat) (p1 : Int32) (h : zH) : Option (Int32 × zH) :=
  (cko h p0 1).bind fun _ =>
  bnd2 (f_X6_ofOutlet E p0 p1 (0 : Int32) h) fun x4 h2 =>
  if x4 = (-1 : Int64) then (
    f_X6_isOpen_b18 E (0 : Int32) h2
  ) else (
    f_X6_isOpen_b18 E (1 : Int32) h2
  )
theorem w_X6_isOpen_b0 (C0 : zCx p l e R s m args below meth c D B0 2 "FranchiseLedgerModel" cX6_isOpen E 2 82 (Option.some Jvm.ClassFile.FieldType.boolean) "isOpen") {r : Int32} {h' : zH} {p0 : Nat} {p1 : Int32} {h : zH} (hf : f_X6_isOpen_b0 E p0 p1 h = some (r, h')) : zW p l e R s m args below meth c D B0 2 (zEnd D B0 R below args s (zoI r) h') h 0 [(0, .ref p0), (1, .int p1)] [] := by
  unfold f_X6_isOpen_b0 at hf
  refine zr_aload_n C0 dX6_isOpen_0 rfl 0 rfl ?_
  refine zr_iload_n C0 dX6_isOpen_1 rfl 1 rfl ?_
  refine zr_iconst C0 (v := 0) dX6_isOpen_2 (by decide) ?_
  obtain ⟨_, e1, hf⟩ := zbind hf
  obtain ⟨x4, h2, e3, hf⟩ := zbind2 hf
  refine zr_callV_r C0 cv_X6_113_X6 rfl (zcko e1) (m_X6_ofOutlet C0.2.2.2.2.2.2.1 e3) (by decide) (by decide) rfl rfl (Nat.le_of_ble_eq_true rfl) dX6_isOpen_3 rfl ?_
  refine zr_ldc2 C0 (v := -1) q2540 dX6_isOpen_6 ?_
  refine zr_lcmp C0 dX6_isOpen_9 ?_
  refine zr_if_eq C0 (tgt := 17) dX6_isOpen_10 (by decide) (fun c5 => ?_) (fun c5 => ?_)
  · have hf := zif_t (zl_eq.mp c5) hf
    refine zr_iconst C0 (v := 0) dX6_isOpen_17 (by decide) ?_
    refine zr_sub [] rfl ?_
    exact w_X6_isOpen_b18 C0 hf
  · have hf := zif_f (zl_eqn.mp c5) hf
    refine zr_iconst C0 (v := 1) dX6_isOpen_13 (by decide) ?_
    refine zr_goto C0 (tgt := 18) dX6_isOpen_14 (by decide) ?_
    refine zr_sub [] rfl ?_
    exact w_X6_isOpen_b18 C0 hf
def f_X6_isOpen (E : zE) (p0 : Nat) (p1 : Int32) (h : zH) : Option (Int32 × zH) := f_X6_isOpen_b0 E p0 p1 h
theorem m_X6_isOpen {l : Launch} (hst : l.stackTraces = false) {D : zD} {B0 : Nat} {E : zE} {p0 : Nat} {p1 : Int32} {h h' : zH} {r : Int32} (hf : f_X6_isOpen E p0 p1 h = some (r, h')) : zMet l yX6_isOpen (ws_ yX6_isOpen cX6_isOpen 2 (Option.some Jvm.ClassFile.FieldType.boolean)) 2 82 D B0 E [.ref p0, .int p1] h (zoI r) h' := by
  unfold f_X6_isOpen at hf
  refine zMet_of hst (by decide +kernel) rfl rfl (Nat.le_of_ble_eq_true rfl) (fun p e R s m below meth c C0 hno => ?_)
  show zW _ _ _ _ _ _ _ _ _ _ _ _ _ _ _ _ [(0, .ref p0), (1, .int p1)] []
  exact w_X6_isOpen_b0 C0 hf
def f_X6_cellOf_b0 (E : zE) (p0 : Nat) (p1 : Int32) (h : zH) : Option (Int32 × zH) :=
  (cko h p0 1).bind fun _ =>
  bnd2 (f_X6_ofOutlet E p0 p1 (2 : Int32) h) fun x4 h2 =>
  (cko h2 p0 1).bind fun _ =>
  bnd2 (f_X6_ofOutlet E p0 p1 (1 : Int32) h2) fun x8 h6 =>
  some (((((30 : Int64) * x4) + x8).toInt32), h6)
theorem w_X6_cellOf_b0 (C0 : zCx p l e R s m args below meth c D B0 2 "FranchiseLedgerModel" cX6_cellOf E 2 82 (Option.some Jvm.ClassFile.FieldType.int) "cellOf") {r : Int32} {h' : zH} {p0 : Nat} {p1 : Int32} {h : zH} (hf : f_X6_cellOf_b0 E p0 p1 h = some (r, h')) : zW p l e R s m args below meth c D B0 2 (zEnd D B0 R below args s (zoI r) h') h 0 [(0, .ref p0), (1, .int p1)] [] := by
  unfold f_X6_cellOf_b0 at hf
  refine zr_ldc2 C0 (v := 30) q2708 dX6_cellOf_0 ?_
  refine zr_aload_n C0 dX6_cellOf_3 rfl 0 rfl ?_
  refine zr_iload_n C0 dX6_cellOf_4 rfl 1 rfl ?_
  refine zr_iconst C0 (v := 2) dX6_cellOf_5 (by decide) ?_
  obtain ⟨_, e1, hf⟩ := zbind hf
  obtain ⟨x4, h2, e3, hf⟩ := zbind2 hf
  refine zr_callV_r C0 cv_X6_113_X6 rfl (zcko e1) (m_X6_ofOutlet C0.2.2.2.2.2.2.1 e3) (by decide) (by decide) rfl rfl (Nat.le_of_ble_eq_true rfl) dX6_cellOf_6 rfl ?_
  refine zr_lmul C0 dX6_cellOf_9 ?_
  refine zr_aload_n C0 dX6_cellOf_10 rfl 0 rfl ?_
  refine zr_iload_n C0 dX6_cellOf_11 rfl 1 rfl ?_
  refine zr_iconst C0 (v := 1) dX6_cellOf_12 (by decide) ?_
  obtain ⟨_, e5, hf⟩ := zbind hf
  obtain ⟨x8, h6, e7, hf⟩ := zbind2 hf
  refine zr_callV_r C0 cv_X6_113_X6 rfl (zcko e5) (m_X6_ofOutlet C0.2.2.2.2.2.2.1 e7) (by decide) (by decide) rfl rfl (Nat.le_of_ble_eq_true rfl) dX6_cellOf_13 rfl ?_
  refine zr_ladd C0 dX6_cellOf_16 ?_
  refine zr_l2i C0 dX6_cellOf_17 ?_
  refine zretW hf ?_
  exact zr_iret C0 (ty := .int) rfl rfl dX6_cellOf_18 rfl
def f_X6_cellOf (E : zE) (p0 : Nat) (p1 : Int32) (h : zH) : Option (Int32 × zH) := f_X6_cellOf_b0 E p0 p1 h
theorem m_X6_cellOf {l : Launch} (hst : l.stackTraces = false) {D : zD} {B0 : Nat} {E : zE} {p0 : Nat} {p1 : Int32} {h h' : zH} {r : Int32} (hf : f_X6_cellOf E p0 p1 h = some (r, h')) : zMet l yX6_cellOf (ws_ yX6_cellOf cX6_cellOf 2 (Option.some Jvm.ClassFile.FieldType.int)) 2 82 D B0 E [.ref p0, .int p1] h (zoI r) h' := by
  unfold f_X6_cellOf at hf
  refine zMet_of hst (by decide +kernel) rfl rfl (Nat.le_of_ble_eq_true rfl) (fun p e R s m below meth c C0 hno => ?_)
  show zW _ _ _ _ _ _ _ _ _ _ _ _ _ _ _ _ [(0, .ref p0), (1, .int p1)] []
  exact w_X6_cellOf_b0 C0 hf
def f_X6_hasOutlet_b33 (E : zE) (k2 : Nat → Int32 → Int32 → zH → Option (Int32 × zH)) (p0 : Nat) (p1 : Int32) (p2 : Int32) (h : zH) : Option (Int32 × zH) :=
  k2 p0 p1 (p2 + 1) h
theorem w_X6_hasOutlet_b33 (C0 : zCx p l e R s m args below meth c D B0 3 "FranchiseLedgerModel" cX6_hasOutlet E 3 103 (Option.some Jvm.ClassFile.FieldType.boolean) "hasOutlet") {r : Int32} {h' : zH} {k2 : Nat → Int32 → Int32 → zH → Option (Int32 × zH)} (hk2 : ∀ (p0 : Nat) (p1 : Int32) (p2 : Int32) (h : zH), k2 p0 p1 p2 h = some (r, h') → zW p l e R s m args below meth c D B0 3 (zEnd D B0 R below args s (zoI r) h') h 2 [(0, .ref p0), (1, .int p1), (2, .int p2)] []) {p0 : Nat} {p1 : Int32} {p2 : Int32} {h : zH} (hf : f_X6_hasOutlet_b33 E k2 p0 p1 p2 h = some (r, h')) : zW p l e R s m args below meth c D B0 3 (zEnd D B0 R below args s (zoI r) h') h 33 [(0, .ref p0), (1, .int p1), (2, .int p2)] [] := by
  unfold f_X6_hasOutlet_b33 at hf
  refine zr_iinc (lv' := [(2, .int (p2 + 1)), (0, .ref p0), (1, .int p1)]) C0 dX6_hasOutlet_33 2 rfl rfl (by decide) (by first | rfl | simp [zst1, zst2, zcat_rf]) ?_
  refine zr_goto C0 (tgt := 2) dX6_hasOutlet_36 (by decide) ?_
  refine zr_sub [1, 2, 0] rfl ?_
  exact hk2 _ _ _ _ hf
def f_X6_hasOutlet_l2 (E : zE) : Nat → Nat → Int32 → Int32 → zH → Option (Int32 × zH)
  | 0, _, _, _, _ => none
  | n + 1, p0, p1, p2, h =>
    (gR h p0 1 0).bind fun x1 =>
    (dL h x1 (3 : Int32)).bind fun x3 =>
    if x3 ≤ (p2.toInt64) then (
      some ((0 : Int32), h)
    ) else (
      (cko h p0 1).bind fun _ =>
      bnd2 (f_X6_isOpen E p0 p2 h) fun x9 h7 =>
      if x9 = 0 then (
        f_X6_hasOutlet_b33 E (f_X6_hasOutlet_l2 E n) p0 p1 p2 h7
      ) else (
        (cko h7 p0 1).bind fun _ =>
        bnd2 (f_X6_cellOf E p0 p2 h7) fun x14 h12 =>
        if x14 = p1 then (
          some ((1 : Int32), h12)
        ) else (
          f_X6_hasOutlet_b33 E (f_X6_hasOutlet_l2 E n) p0 p1 p2 h12
        )
      )
    )
theorem w_X6_hasOutlet_l2 (C0 : zCx p l e R s m args below meth c D B0 3 "FranchiseLedgerModel" cX6_hasOutlet E 3 103 (Option.some Jvm.ClassFile.FieldType.boolean) "hasOutlet") {r : Int32} {h' : zH} : ∀ (n : Nat) (p0 : Nat) (p1 : Int32) (p2 : Int32) (h : zH), f_X6_hasOutlet_l2 E n p0 p1 p2 h = some (r, h') → zW p l e R s m args below meth c D B0 3 (zEnd D B0 R below args s (zoI r) h') h 2 [(0, .ref p0), (1, .int p1), (2, .int p2)] [] := by
  intro n
  induction n with
  | zero =>
    intro p0 p1 p2 h hf
    unfold f_X6_hasOutlet_l2 at hf
    cases hf
  | succ n ih =>
    intro p0 p1 p2 h hf
    unfold f_X6_hasOutlet_l2 at hf
    refine zr_iload_n C0 dX6_hasOutlet_2 rfl 2 rfl ?_
    refine zr_i2l C0 dX6_hasOutlet_3 ?_
    refine zr_aload_n C0 dX6_hasOutlet_4 rfl 0 rfl ?_
    obtain ⟨x1, e2, hf⟩ := zbind hf
    refine zr_get C0 fl_X6_9_X6 dX6_hasOutlet_5 (zgR e2) ?_
    refine zr_iconst C0 (v := 3) dX6_hasOutlet_8 (by decide) ?_
    obtain ⟨x3, e4, hf⟩ := zbind hf
    refine zr_lald C0 dX6_hasOutlet_9 e4 ?_
    refine zr_lcmp C0 dX6_hasOutlet_10 ?_
    refine zr_if_ge C0 (tgt := 39) dX6_hasOutlet_11 (by decide) (fun c5 => ?_) (fun c5 => ?_)
    · have hf := zif_t (zl_ge.mp c5) hf
      refine zr_iconst C0 (v := 0) dX6_hasOutlet_39 (by decide) ?_
      refine zretW hf ?_
      exact zr_iret C0 (ty := .boolean) rfl (by decide) dX6_hasOutlet_40 rfl
    · have hf := zif_f (zl_gen.mp c5) hf
      refine zr_aload_n C0 dX6_hasOutlet_14 rfl 0 rfl ?_
      refine zr_iload_n C0 dX6_hasOutlet_15 rfl 2 rfl ?_
      obtain ⟨_, e6, hf⟩ := zbind hf
      obtain ⟨x9, h7, e8, hf⟩ := zbind2 hf
      refine zr_callV_r C0 cv_X6_118_X6 rfl (zcko e6) (m_X6_isOpen C0.2.2.2.2.2.2.1 e8) (by decide) (by decide) rfl rfl (Nat.le_of_ble_eq_true rfl) dX6_hasOutlet_16 rfl ?_
      refine zr_if_eq C0 (tgt := 33) dX6_hasOutlet_19 (by decide) (fun c10 => ?_) (fun c10 => ?_)
      · have hf := zif_t c10 hf
        exact w_X6_hasOutlet_b33 C0 ih hf
      · have hf := zif_f c10 hf
        refine zr_aload_n C0 dX6_hasOutlet_22 rfl 0 rfl ?_
        refine zr_iload_n C0 dX6_hasOutlet_23 rfl 2 rfl ?_
        obtain ⟨_, e11, hf⟩ := zbind hf
        obtain ⟨x14, h12, e13, hf⟩ := zbind2 hf
        refine zr_callV_r C0 cv_X6_121_X6 rfl (zcko e11) (m_X6_cellOf C0.2.2.2.2.2.2.1 e13) (by decide) (by decide) rfl rfl (Nat.le_of_ble_eq_true rfl) dX6_hasOutlet_24 rfl ?_
        refine zr_iload_n C0 dX6_hasOutlet_27 rfl 1 rfl ?_
        refine zr_icmp_ne C0 (tgt := 33) dX6_hasOutlet_28 (by decide) (fun c15 => ?_) (fun c15 => ?_)
        · have hf := zif_f c15 hf
          exact w_X6_hasOutlet_b33 C0 ih hf
        · have hf := zif_t c15 hf
          refine zr_iconst C0 (v := 1) dX6_hasOutlet_31 (by decide) ?_
          refine zretW hf ?_
          exact zr_iret C0 (ty := .boolean) rfl (by decide) dX6_hasOutlet_32 rfl
def f_X6_hasOutlet_b0 (E : zE) (p0 : Nat) (p1 : Int32) (h : zH) : Option (Int32 × zH) :=
  f_X6_hasOutlet_l2 E E.1 p0 p1 (0 : Int32) h
theorem w_X6_hasOutlet_b0 (C0 : zCx p l e R s m args below meth c D B0 3 "FranchiseLedgerModel" cX6_hasOutlet E 3 103 (Option.some Jvm.ClassFile.FieldType.boolean) "hasOutlet") {r : Int32} {h' : zH} {p0 : Nat} {p1 : Int32} {h : zH} (hf : f_X6_hasOutlet_b0 E p0 p1 h = some (r, h')) : zW p l e R s m args below meth c D B0 3 (zEnd D B0 R below args s (zoI r) h') h 0 [(0, .ref p0), (1, .int p1)] [] := by
  unfold f_X6_hasOutlet_b0 at hf
  refine zr_iconst C0 (v := 0) dX6_hasOutlet_0 (by decide) ?_
  refine zr_istore_n (i := 2) (lv' := [(2, .int (0 : Int32)), (0, .ref p0), (1, .int p1)]) C0 dX6_hasOutlet_1 rfl (by decide) (by first | rfl | simp [zst1, zst2, zcat_rf]) ?_
  refine zr_sub [1, 2, 0] rfl ?_
  exact w_X6_hasOutlet_l2 C0 _ _ _ _ _ hf
def f_X6_hasOutlet (E : zE) (p0 : Nat) (p1 : Int32) (h : zH) : Option (Int32 × zH) := f_X6_hasOutlet_b0 E p0 p1 h
theorem m_X6_hasOutlet {l : Launch} (hst : l.stackTraces = false) {D : zD} {B0 : Nat} {E : zE} {p0 : Nat} {p1 : Int32} {h h' : zH} {r : Int32} (hf : f_X6_hasOutlet E p0 p1 h = some (r, h')) : zMet l yX6_hasOutlet (ws_ yX6_hasOutlet cX6_hasOutlet 3 (Option.some Jvm.ClassFile.FieldType.boolean)) 3 103 D B0 E [.ref p0, .int p1] h (zoI r) h' := by
  unfold f_X6_hasOutlet at hf
  refine zMet_of hst (by decide +kernel) rfl rfl (Nat.le_of_ble_eq_true rfl) (fun p e R s m below meth c C0 hno => ?_)
  show zW _ _ _ _ _ _ _ _ _ _ _ _ _ _ _ _ [(0, .ref p0), (1, .int p1)] []
  exact w_X6_hasOutlet_b0 C0 hf
def f_X6_cede_b65 (E : zE) (h : zH) : Option (Int32 × zH) :=
  some ((0 : Int32), h)
theorem w_X6_cede_b65 (C0 : zCx p l e R s m args below meth c D B0 10 "FranchiseLedgerModel" cX6_cede E 5 155 (Option.some Jvm.ClassFile.FieldType.int) "cede") {r : Int32} {h' : zH} {h : zH} (hf : f_X6_cede_b65 E  h = some (r, h')) : zW p l e R s m args below meth c D B0 10 (zEnd D B0 R below args s (zoI r) h') h 65 [] [] := by
  unfold f_X6_cede_b65 at hf
  refine zr_iconst C0 (v := 0) dX6_cede_65 (by decide) ?_
  refine zretW hf ?_
  exact zr_iret C0 (ty := .int) rfl rfl dX6_cede_66 rfl
def f_X6_cede_b83 (E : zE) (h : zH) : Option (Int32 × zH) :=
  some ((-2 : Int32), h)
theorem w_X6_cede_b83 (C0 : zCx p l e R s m args below meth c D B0 10 "FranchiseLedgerModel" cX6_cede E 5 155 (Option.some Jvm.ClassFile.FieldType.int) "cede") {r : Int32} {h' : zH} {h : zH} (hf : f_X6_cede_b83 E  h = some (r, h')) : zW p l e R s m args below meth c D B0 10 (zEnd D B0 R below args s (zoI r) h') h 83 [] [] := by
  unfold f_X6_cede_b83 at hf
  refine zr_bipush C0 (v := -2) dX6_cede_83 (by decide) ?_
  refine zretW hf ?_
  exact zr_iret C0 (ty := .int) rfl rfl dX6_cede_85 rfl
def f_X6_cede_b241 (E : zE) (p0 : Nat) (p1 : Int32) (h : zH) : Option (Int32 × zH) :=
  (cko h p0 1).bind fun _ =>
  bnd2 (f_X6_give E p0 p1 h) fun x4 h2 =>
  some ((-2 : Int32), h2)
theorem w_X6_cede_b241 (C0 : zCx p l e R s m args below meth c D B0 10 "FranchiseLedgerModel" cX6_cede E 5 155 (Option.some Jvm.ClassFile.FieldType.int) "cede") {r : Int32} {h' : zH} {p0 : Nat} {p1 : Int32} {h : zH} (hf : f_X6_cede_b241 E p0 p1 h = some (r, h')) : zW p l e R s m args below meth c D B0 10 (zEnd D B0 R below args s (zoI r) h') h 241 [(0, .ref p0), (1, .int p1)] [] := by
  unfold f_X6_cede_b241 at hf
  refine zr_aload_n C0 dX6_cede_241 rfl 0 rfl ?_
  refine zr_iload_n C0 dX6_cede_242 rfl 1 rfl ?_
  obtain ⟨_, e1, hf⟩ := zbind hf
  obtain ⟨x4, h2, e3, hf⟩ := zbind2 hf
  refine zr_callV_r C0 cv_X6_138_X6 rfl (zcko e1) (m_X6_give C0.2.2.2.2.2.2.1 e3) (by decide) (by decide) rfl rfl (Nat.le_of_ble_eq_true rfl) dX6_cede_243 rfl ?_
  refine zr_bipush C0 (v := -2) dX6_cede_246 (by decide) ?_
  refine zretW hf ?_
  exact zr_iret C0 (ty := .int) rfl rfl dX6_cede_248 rfl
def f_X6_cede_b193 (E : zE) (k95 : Nat → Int32 → Int32 → Int32 → Int32 → Int32 → Int32 → Int32 → Int32 → Int32 → zH → Option (Int32 × zH)) (p0 : Nat) (p1 : Int32) (p2 : Int32) (p3 : Int32) (p4 : Int32) (p5 : Int32) (p6 : Int32) (p7 : Int32) (p9 : Int32) (s0 : Int32) (s1 : Int32) (h : zH) : Option (Int32 × zH) :=
  k95 p0 p1 p2 p3 p4 p5 p6 p7 (s0 ||| s1) (p9 + 1) h
theorem w_X6_cede_b193 (C0 : zCx p l e R s m args below meth c D B0 10 "FranchiseLedgerModel" cX6_cede E 5 155 (Option.some Jvm.ClassFile.FieldType.int) "cede") {r : Int32} {h' : zH} {k95 : Nat → Int32 → Int32 → Int32 → Int32 → Int32 → Int32 → Int32 → Int32 → Int32 → zH → Option (Int32 × zH)} (hk95 : ∀ (p0 : Nat) (p1 : Int32) (p2 : Int32) (p3 : Int32) (p4 : Int32) (p5 : Int32) (p6 : Int32) (p7 : Int32) (p8 : Int32) (p9 : Int32) (h : zH), k95 p0 p1 p2 p3 p4 p5 p6 p7 p8 p9 h = some (r, h') → zW p l e R s m args below meth c D B0 10 (zEnd D B0 R below args s (zoI r) h') h 95 [(0, .ref p0), (1, .int p1), (2, .int p2), (3, .int p3), (4, .int p4), (5, .int p5), (6, .int p6), (7, .int p7), (8, .int p8), (9, .int p9)] []) {p0 : Nat} {p1 : Int32} {p2 : Int32} {p3 : Int32} {p4 : Int32} {p5 : Int32} {p6 : Int32} {p7 : Int32} {p9 : Int32} {s0 : Int32} {s1 : Int32} {h : zH} (hf : f_X6_cede_b193 E k95 p0 p1 p2 p3 p4 p5 p6 p7 p9 s0 s1 h = some (r, h')) : zW p l e R s m args below meth c D B0 10 (zEnd D B0 R below args s (zoI r) h') h 193 [(0, .ref p0), (1, .int p1), (2, .int p2), (3, .int p3), (4, .int p4), (5, .int p5), (6, .int p6), (7, .int p7), (9, .int p9)] [.int s1, .int s0] := by
  unfold f_X6_cede_b193 at hf
  refine zr_ior C0 dX6_cede_193 ?_
  refine zr_istore (i := 8) (lv' := [(8, .int (s0 ||| s1)), (0, .ref p0), (1, .int p1), (2, .int p2), (3, .int p3), (4, .int p4), (5, .int p5), (6, .int p6), (7, .int p7), (9, .int p9)]) C0 dX6_cede_194 (by decide) (by first | rfl | simp [zst1, zst2, zcat_rf]) ?_
  refine zr_iinc (lv' := [(9, .int (p9 + 1)), (8, .int (s0 ||| s1)), (0, .ref p0), (1, .int p1), (2, .int p2), (3, .int p3), (4, .int p4), (5, .int p5), (6, .int p6), (7, .int p7)]) C0 dX6_cede_196 9 rfl rfl (by decide) (by first | rfl | simp [zst1, zst2, zcat_rf]) ?_
  refine zr_goto C0 (tgt := 95) dX6_cede_199 (by decide) ?_
  refine zr_sub [2, 3, 4, 5, 6, 7, 8, 9, 1, 0] rfl ?_
  exact hk95 _ _ _ _ _ _ _ _ _ _ _ hf
def f_X6_cede_b192 (E : zE) (k95 : Nat → Int32 → Int32 → Int32 → Int32 → Int32 → Int32 → Int32 → Int32 → Int32 → zH → Option (Int32 × zH)) (p0 : Nat) (p1 : Int32) (p2 : Int32) (p3 : Int32) (p4 : Int32) (p5 : Int32) (p6 : Int32) (p7 : Int32) (p9 : Int32) (s0 : Int32) (h : zH) : Option (Int32 × zH) :=
  f_X6_cede_b193 E k95 p0 p1 p2 p3 p4 p5 p6 p7 p9 s0 (0 : Int32) h
theorem w_X6_cede_b192 (C0 : zCx p l e R s m args below meth c D B0 10 "FranchiseLedgerModel" cX6_cede E 5 155 (Option.some Jvm.ClassFile.FieldType.int) "cede") {r : Int32} {h' : zH} {k95 : Nat → Int32 → Int32 → Int32 → Int32 → Int32 → Int32 → Int32 → Int32 → Int32 → zH → Option (Int32 × zH)} (hk95 : ∀ (p0 : Nat) (p1 : Int32) (p2 : Int32) (p3 : Int32) (p4 : Int32) (p5 : Int32) (p6 : Int32) (p7 : Int32) (p8 : Int32) (p9 : Int32) (h : zH), k95 p0 p1 p2 p3 p4 p5 p6 p7 p8 p9 h = some (r, h') → zW p l e R s m args below meth c D B0 10 (zEnd D B0 R below args s (zoI r) h') h 95 [(0, .ref p0), (1, .int p1), (2, .int p2), (3, .int p3), (4, .int p4), (5, .int p5), (6, .int p6), (7, .int p7), (8, .int p8), (9, .int p9)] []) {p0 : Nat} {p1 : Int32} {p2 : Int32} {p3 : Int32} {p4 : Int32} {p5 : Int32} {p6 : Int32} {p7 : Int32} {p9 : Int32} {s0 : Int32} {h : zH} (hf : f_X6_cede_b192 E k95 p0 p1 p2 p3 p4 p5 p6 p7 p9 s0 h = some (r, h')) : zW p l e R s m args below meth c D B0 10 (zEnd D B0 R below args s (zoI r) h') h 192 [(0, .ref p0), (1, .int p1), (2, .int p2), (3, .int p3), (4, .int p4), (5, .int p5), (6, .int p6), (7, .int p7), (9, .int p9)] [.int s0] := by
  unfold f_X6_cede_b192 at hf
  refine zr_iconst C0 (v := 0) dX6_cede_192 (by decide) ?_
  exact w_X6_cede_b193 C0 hk95 hf
def f_X6_cede_b164 (E : zE) (k95 : Nat → Int32 → Int32 → Int32 → Int32 → Int32 → Int32 → Int32 → Int32 → Int32 → zH → Option (Int32 × zH)) (p0 : Nat) (p1 : Int32) (p2 : Int32) (p3 : Int32) (p4 : Int32) (p5 : Int32) (p6 : Int32) (p8 : Int32) (p9 : Int32) (s0 : Int32) (s1 : Int32) (h : zH) : Option (Int32 × zH) :=
  (gR h p0 1 4).bind fun x1 =>
  (dI h x1 3 p9).bind fun x3 =>
  if x3 = 0 then (
    f_X6_cede_b192 E k95 p0 p1 p2 p3 p4 p5 p6 (s0 + s1) p9 p8 h
  ) else (
    (cko h p0 1).bind fun _ =>
    bnd2 (f_X6_hasOutlet E p0 p9 h) fun x9 h7 =>
    if x9 = 0 then (
      f_X6_cede_b192 E k95 p0 p1 p2 p3 p4 p5 p6 (s0 + s1) p9 p8 h7
    ) else (
      f_X6_cede_b193 E k95 p0 p1 p2 p3 p4 p5 p6 (s0 + s1) p9 p8 (1 : Int32) h7
    )
  )
theorem w_X6_cede_b164 (C0 : zCx p l e R s m args below meth c D B0 10 "FranchiseLedgerModel" cX6_cede E 5 155 (Option.some Jvm.ClassFile.FieldType.int) "cede") {r : Int32} {h' : zH} {k95 : Nat → Int32 → Int32 → Int32 → Int32 → Int32 → Int32 → Int32 → Int32 → Int32 → zH → Option (Int32 × zH)} (hk95 : ∀ (p0 : Nat) (p1 : Int32) (p2 : Int32) (p3 : Int32) (p4 : Int32) (p5 : Int32) (p6 : Int32) (p7 : Int32) (p8 : Int32) (p9 : Int32) (h : zH), k95 p0 p1 p2 p3 p4 p5 p6 p7 p8 p9 h = some (r, h') → zW p l e R s m args below meth c D B0 10 (zEnd D B0 R below args s (zoI r) h') h 95 [(0, .ref p0), (1, .int p1), (2, .int p2), (3, .int p3), (4, .int p4), (5, .int p5), (6, .int p6), (7, .int p7), (8, .int p8), (9, .int p9)] []) {p0 : Nat} {p1 : Int32} {p2 : Int32} {p3 : Int32} {p4 : Int32} {p5 : Int32} {p6 : Int32} {p8 : Int32} {p9 : Int32} {s0 : Int32} {s1 : Int32} {h : zH} (hf : f_X6_cede_b164 E k95 p0 p1 p2 p3 p4 p5 p6 p8 p9 s0 s1 h = some (r, h')) : zW p l e R s m args below meth c D B0 10 (zEnd D B0 R below args s (zoI r) h') h 164 [(0, .ref p0), (1, .int p1), (2, .int p2), (3, .int p3), (4, .int p4), (5, .int p5), (6, .int p6), (8, .int p8), (9, .int p9)] [.int s1, .int s0] := by
  unfold f_X6_cede_b164 at hf
  refine zr_iadd C0 dX6_cede_164 ?_
  refine zr_istore (i := 7) (lv' := [(7, .int (s0 + s1)), (0, .ref p0), (1, .int p1), (2, .int p2), (3, .int p3), (4, .int p4), (5, .int p5), (6, .int p6), (8, .int p8), (9, .int p9)]) C0 dX6_cede_165 (by decide) (by first | rfl | simp [zst1, zst2, zcat_rf]) ?_
  refine zr_iload C0 dX6_cede_167 8 rfl ?_
  refine zr_aload_n C0 dX6_cede_169 rfl 1 rfl ?_
  obtain ⟨x1, e2, hf⟩ := zbind hf
  refine zr_get C0 fl_X6_20_X6 dX6_cede_170 (zgR e2) ?_
  refine zr_iload C0 dX6_cede_173 9 rfl ?_
  obtain ⟨x3, e4, hf⟩ := zbind hf
  refine zr_zald C0 dX6_cede_175 e4 ?_
  refine zr_if_eq C0 (tgt := 192) dX6_cede_176 (by decide) (fun c5 => ?_) (fun c5 => ?_)
  · have hf := zif_t c5 hf
    refine zr_sub [1, 2, 3, 4, 5, 6, 7, 0, 9] rfl ?_
    exact w_X6_cede_b192 C0 hk95 hf
  · have hf := zif_f c5 hf
    refine zr_aload_n C0 dX6_cede_179 rfl 1 rfl ?_
    refine zr_iload C0 dX6_cede_180 9 rfl ?_
    obtain ⟨_, e6, hf⟩ := zbind hf
    obtain ⟨x9, h7, e8, hf⟩ := zbind2 hf
    refine zr_callV_r C0 cv_X6_135_X6 rfl (zcko e6) (m_X6_hasOutlet C0.2.2.2.2.2.2.1 e8) (by decide) (by decide) rfl rfl (Nat.le_of_ble_eq_true rfl) dX6_cede_182 rfl ?_
    refine zr_if_eq C0 (tgt := 192) dX6_cede_185 (by decide) (fun c10 => ?_) (fun c10 => ?_)
    · have hf := zif_t c10 hf
      refine zr_sub [1, 2, 3, 4, 5, 6, 7, 0, 9] rfl ?_
      exact w_X6_cede_b192 C0 hk95 hf
    · have hf := zif_f c10 hf
      refine zr_iconst C0 (v := 1) dX6_cede_188 (by decide) ?_
      refine zr_goto C0 (tgt := 193) dX6_cede_189 (by decide) ?_
      refine zr_sub [1, 2, 3, 4, 5, 6, 7, 0, 9] rfl ?_
      exact w_X6_cede_b193 C0 hk95 hf
def f_X6_cede_b146 (E : zE) (k95 : Nat → Int32 → Int32 → Int32 → Int32 → Int32 → Int32 → Int32 → Int32 → Int32 → zH → Option (Int32 × zH)) (p0 : Nat) (p1 : Int32) (p2 : Int32) (p3 : Int32) (p4 : Int32) (p5 : Int32) (p6 : Int32) (p7 : Int32) (p8 : Int32) (p9 : Int32) (s0 : Nat) (s1 : Int32) (s2 : Int32) (h : zH) : Option (Int32 × zH) :=
  (zgd .boolean s2).bind fun _ =>
  (sI h s0 3 s1 s2).bind fun h2 =>
  (gR h2 p0 1 4).bind fun x4 =>
  (dI h2 x4 3 p9).bind fun x6 =>
  if x6 = 0 then (
    f_X6_cede_b164 E k95 p0 p1 p2 p3 p4 p5 p6 p8 p9 p7 (0 : Int32) h2
  ) else (
    f_X6_cede_b164 E k95 p0 p1 p2 p3 p4 p5 p6 p8 p9 p7 (1 : Int32) h2
  )
theorem w_X6_cede_b146 (C0 : zCx p l e R s m args below meth c D B0 10 "FranchiseLedgerModel" cX6_cede E 5 155 (Option.some Jvm.ClassFile.FieldType.int) "cede") {r : Int32} {h' : zH} {k95 : Nat → Int32 → Int32 → Int32 → Int32 → Int32 → Int32 → Int32 → Int32 → Int32 → zH → Option (Int32 × zH)} (hk95 : ∀ (p0 : Nat) (p1 : Int32) (p2 : Int32) (p3 : Int32) (p4 : Int32) (p5 : Int32) (p6 : Int32) (p7 : Int32) (p8 : Int32) (p9 : Int32) (h : zH), k95 p0 p1 p2 p3 p4 p5 p6 p7 p8 p9 h = some (r, h') → zW p l e R s m args below meth c D B0 10 (zEnd D B0 R below args s (zoI r) h') h 95 [(0, .ref p0), (1, .int p1), (2, .int p2), (3, .int p3), (4, .int p4), (5, .int p5), (6, .int p6), (7, .int p7), (8, .int p8), (9, .int p9)] []) {p0 : Nat} {p1 : Int32} {p2 : Int32} {p3 : Int32} {p4 : Int32} {p5 : Int32} {p6 : Int32} {p7 : Int32} {p8 : Int32} {p9 : Int32} {s0 : Nat} {s1 : Int32} {s2 : Int32} {h : zH} (hf : f_X6_cede_b146 E k95 p0 p1 p2 p3 p4 p5 p6 p7 p8 p9 s0 s1 s2 h = some (r, h')) : zW p l e R s m args below meth c D B0 10 (zEnd D B0 R below args s (zoI r) h') h 146 [(0, .ref p0), (1, .int p1), (2, .int p2), (3, .int p3), (4, .int p4), (5, .int p5), (6, .int p6), (7, .int p7), (8, .int p8), (9, .int p9)] [.int s2, .int s1, .ref s0] := by
  unfold f_X6_cede_b146 at hf
  obtain ⟨_, e1, hf⟩ := zbind hf
  obtain ⟨h2, e3, hf⟩ := zbind hf
  refine zr_zast C0 dX6_cede_146 (zgd_b e1) e3 ?_
  refine zr_iload C0 dX6_cede_147 7 rfl ?_
  refine zr_aload_n C0 dX6_cede_149 rfl 0 rfl ?_
  obtain ⟨x4, e5, hf⟩ := zbind hf
  refine zr_get C0 fl_X6_20_X6 dX6_cede_150 (zgR e5) ?_
  refine zr_iload C0 dX6_cede_153 9 rfl ?_
  obtain ⟨x6, e7, hf⟩ := zbind hf
  refine zr_zald C0 dX6_cede_155 e7 ?_
  refine zr_if_eq C0 (tgt := 163) dX6_cede_156 (by decide) (fun c8 => ?_) (fun c8 => ?_)
  · have hf := zif_t c8 hf
    refine zr_iconst C0 (v := 0) dX6_cede_163 (by decide) ?_
    refine zr_sub [0, 1, 2, 3, 4, 5, 6, 8, 9] rfl ?_
    exact w_X6_cede_b164 C0 hk95 hf
  · have hf := zif_f c8 hf
    refine zr_iconst C0 (v := 1) dX6_cede_159 (by decide) ?_
    refine zr_goto C0 (tgt := 164) dX6_cede_160 (by decide) ?_
    refine zr_sub [0, 1, 2, 3, 4, 5, 6, 8, 9] rfl ?_
    exact w_X6_cede_b164 C0 hk95 hf
def f_X6_cede_b145 (E : zE) (k95 : Nat → Int32 → Int32 → Int32 → Int32 → Int32 → Int32 → Int32 → Int32 → Int32 → zH → Option (Int32 × zH)) (p0 : Nat) (p1 : Int32) (p2 : Int32) (p3 : Int32) (p4 : Int32) (p5 : Int32) (p6 : Int32) (p7 : Int32) (p8 : Int32) (p9 : Int32) (s0 : Nat) (s1 : Int32) (h : zH) : Option (Int32 × zH) :=
  f_X6_cede_b146 E k95 p0 p1 p2 p3 p4 p5 p6 p7 p8 p9 s0 s1 (0 : Int32) h
theorem w_X6_cede_b145 (C0 : zCx p l e R s m args below meth c D B0 10 "FranchiseLedgerModel" cX6_cede E 5 155 (Option.some Jvm.ClassFile.FieldType.int) "cede") {r : Int32} {h' : zH} {k95 : Nat → Int32 → Int32 → Int32 → Int32 → Int32 → Int32 → Int32 → Int32 → Int32 → zH → Option (Int32 × zH)} (hk95 : ∀ (p0 : Nat) (p1 : Int32) (p2 : Int32) (p3 : Int32) (p4 : Int32) (p5 : Int32) (p6 : Int32) (p7 : Int32) (p8 : Int32) (p9 : Int32) (h : zH), k95 p0 p1 p2 p3 p4 p5 p6 p7 p8 p9 h = some (r, h') → zW p l e R s m args below meth c D B0 10 (zEnd D B0 R below args s (zoI r) h') h 95 [(0, .ref p0), (1, .int p1), (2, .int p2), (3, .int p3), (4, .int p4), (5, .int p5), (6, .int p6), (7, .int p7), (8, .int p8), (9, .int p9)] []) {p0 : Nat} {p1 : Int32} {p2 : Int32} {p3 : Int32} {p4 : Int32} {p5 : Int32} {p6 : Int32} {p7 : Int32} {p8 : Int32} {p9 : Int32} {s0 : Nat} {s1 : Int32} {h : zH} (hf : f_X6_cede_b145 E k95 p0 p1 p2 p3 p4 p5 p6 p7 p8 p9 s0 s1 h = some (r, h')) : zW p l e R s m args below meth c D B0 10 (zEnd D B0 R below args s (zoI r) h') h 145 [(0, .ref p0), (1, .int p1), (2, .int p2), (3, .int p3), (4, .int p4), (5, .int p5), (6, .int p6), (7, .int p7), (8, .int p8), (9, .int p9)] [.int s1, .ref s0] := by
  unfold f_X6_cede_b145 at hf
  refine zr_iconst C0 (v := 0) dX6_cede_145 (by decide) ?_
  exact w_X6_cede_b146 C0 hk95 hf
def f_X6_cede_l95 (E : zE) : Nat → Nat → Int32 → Int32 → Int32 → Int32 → Int32 → Int32 → Int32 → Int32 → Int32 → zH → Option (Int32 × zH)
  | 0, _, _, _, _, _, _, _, _, _, _, _ => none
  | n + 1, p0, p1, p2, p3, p4, p5, p6, p7, p8, p9, h =>
    if (900 : Int32) ≤ p9 then (
      if p7 = 0 then (
        some ((0 : Int32), h)
      ) else (
        if p8 = 0 then (
          (cko h p0 1).bind fun _ =>
          bnd2 (f_X6_give E p0 p2 h) fun x7 h5 =>
          (cko h5 p0 1).bind fun _ =>
          bnd2 (f_X6_connected E p0 p1 h5) fun x11 h9 =>
          if x11 = 0 then (
            f_X6_cede_b241 E p0 p1 h9
          ) else (
            (cko h9 p0 1).bind fun _ =>
            bnd2 (f_X6_connected E p0 p2 h9) fun x16 h14 =>
            if x16 = 0 then (
              f_X6_cede_b241 E p0 p1 h14
            ) else (
              some (p7, h14)
            )
          )
        ) else (
          some ((-2 : Int32), h)
        )
      )
    ) else (
      (gR h p0 1 4).bind fun x18 =>
      (gR h p0 1 0).bind fun x20 =>
      (dL h x20 ((250 : Int32) + p9)).bind fun x22 =>
      if x22 = (p1.toInt64) then (
        bnd2 (f_X6_isWithin E p9 p3 p4 p5 p6 h) fun x27 h25 =>
        if x27 = 0 then (
          f_X6_cede_b145 E (f_X6_cede_l95 E n) p0 p1 p2 p3 p4 p5 p6 p7 p8 p9 x18 p9 h25
        ) else (
          f_X6_cede_b146 E (f_X6_cede_l95 E n) p0 p1 p2 p3 p4 p5 p6 p7 p8 p9 x18 p9 (1 : Int32) h25
        )
      ) else (
        f_X6_cede_b145 E (f_X6_cede_l95 E n) p0 p1 p2 p3 p4 p5 p6 p7 p8 p9 x18 p9 h
      )
    )
theorem w_X6_cede_l95 (C0 : zCx p l e R s m args below meth c D B0 10 "FranchiseLedgerModel" cX6_cede E 5 155 (Option.some Jvm.ClassFile.FieldType.int) "cede") {r : Int32} {h' : zH} : ∀ (n : Nat) (p0 : Nat) (p1 : Int32) (p2 : Int32) (p3 : Int32) (p4 : Int32) (p5 : Int32) (p6 : Int32) (p7 : Int32) (p8 : Int32) (p9 : Int32) (h : zH), f_X6_cede_l95 E n p0 p1 p2 p3 p4 p5 p6 p7 p8 p9 h = some (r, h') → zW p l e R s m args below meth c D B0 10 (zEnd D B0 R below args s (zoI r) h') h 95 [(0, .ref p0), (1, .int p1), (2, .int p2), (3, .int p3), (4, .int p4), (5, .int p5), (6, .int p6), (7, .int p7), (8, .int p8), (9, .int p9)] [] := by
  intro n
  induction n with
  | zero =>
    intro p0 p1 p2 p3 p4 p5 p6 p7 p8 p9 h hf
    unfold f_X6_cede_l95 at hf
    cases hf
  | succ n ih =>
    intro p0 p1 p2 p3 p4 p5 p6 p7 p8 p9 h hf
    unfold f_X6_cede_l95 at hf
    refine zr_iload C0 dX6_cede_95 9 rfl ?_
    refine zr_sipush C0 (v := 900) dX6_cede_97 (by decide) ?_
    refine zr_icmp_ge C0 (tgt := 202) dX6_cede_100 (by decide) (fun c1 => ?_) (fun c1 => ?_)
    · have hf := zif_t c1 hf
      refine zr_iload C0 dX6_cede_202 7 rfl ?_
      refine zr_if_ne C0 (tgt := 209) dX6_cede_204 (by decide) (fun c2 => ?_) (fun c2 => ?_)
      · have hf := zif_f c2 hf
        refine zr_iload C0 dX6_cede_209 8 rfl ?_
        refine zr_if_eq C0 (tgt := 217) dX6_cede_211 (by decide) (fun c3 => ?_) (fun c3 => ?_)
        · have hf := zif_t c3 hf
          refine zr_aload_n C0 dX6_cede_217 rfl 0 rfl ?_
          refine zr_iload_n C0 dX6_cede_218 rfl 2 rfl ?_
          obtain ⟨_, e4, hf⟩ := zbind hf
          obtain ⟨x7, h5, e6, hf⟩ := zbind2 hf
          refine zr_callV_r C0 cv_X6_138_X6 rfl (zcko e4) (m_X6_give C0.2.2.2.2.2.2.1 e6) (by decide) (by decide) rfl rfl (Nat.le_of_ble_eq_true rfl) dX6_cede_219 rfl ?_
          refine zr_aload_n C0 dX6_cede_222 rfl 0 rfl ?_
          refine zr_iload_n C0 dX6_cede_223 rfl 1 rfl ?_
          obtain ⟨_, e8, hf⟩ := zbind hf
          obtain ⟨x11, h9, e10, hf⟩ := zbind2 hf
          refine zr_callV_r C0 cv_X6_104_X6 rfl (zcko e8) (m_X6_connected C0.2.2.2.2.2.2.1 e10) (by decide) (by decide) rfl rfl (Nat.le_of_ble_eq_true rfl) dX6_cede_224 rfl ?_
          refine zr_if_eq C0 (tgt := 241) dX6_cede_227 (by decide) (fun c12 => ?_) (fun c12 => ?_)
          · have hf := zif_t c12 hf
            refine zr_sub [0, 1] rfl ?_
            exact w_X6_cede_b241 C0 hf
          · have hf := zif_f c12 hf
            refine zr_aload_n C0 dX6_cede_230 rfl 0 rfl ?_
            refine zr_iload_n C0 dX6_cede_231 rfl 2 rfl ?_
            obtain ⟨_, e13, hf⟩ := zbind hf
            obtain ⟨x16, h14, e15, hf⟩ := zbind2 hf
            refine zr_callV_r C0 cv_X6_104_X6 rfl (zcko e13) (m_X6_connected C0.2.2.2.2.2.2.1 e15) (by decide) (by decide) rfl rfl (Nat.le_of_ble_eq_true rfl) dX6_cede_232 rfl ?_
            refine zr_if_eq C0 (tgt := 241) dX6_cede_235 (by decide) (fun c17 => ?_) (fun c17 => ?_)
            · have hf := zif_t c17 hf
              refine zr_sub [0, 1] rfl ?_
              exact w_X6_cede_b241 C0 hf
            · have hf := zif_f c17 hf
              refine zr_iload C0 dX6_cede_238 7 rfl ?_
              refine zretW hf ?_
              exact zr_iret C0 (ty := .int) rfl rfl dX6_cede_240 rfl
        · have hf := zif_f c3 hf
          refine zr_bipush C0 (v := -2) dX6_cede_214 (by decide) ?_
          refine zretW hf ?_
          exact zr_iret C0 (ty := .int) rfl rfl dX6_cede_216 rfl
      · have hf := zif_t c2 hf
        refine zr_iconst C0 (v := 0) dX6_cede_207 (by decide) ?_
        refine zretW hf ?_
        exact zr_iret C0 (ty := .int) rfl rfl dX6_cede_208 rfl
    · have hf := zif_f c1 hf
      refine zr_aload_n C0 dX6_cede_103 rfl 0 rfl ?_
      obtain ⟨x18, e19, hf⟩ := zbind hf
      refine zr_get C0 fl_X6_20_X6 dX6_cede_104 (zgR e19) ?_
      refine zr_iload C0 dX6_cede_107 9 rfl ?_
      refine zr_aload_n C0 dX6_cede_109 rfl 0 rfl ?_
      obtain ⟨x20, e21, hf⟩ := zbind hf
      refine zr_get C0 fl_X6_9_X6 dX6_cede_110 (zgR e21) ?_
      refine zr_sipush C0 (v := 250) dX6_cede_113 (by decide) ?_
      refine zr_iload C0 dX6_cede_116 9 rfl ?_
      refine zr_iadd C0 dX6_cede_118 ?_
      obtain ⟨x22, e23, hf⟩ := zbind hf
      refine zr_lald C0 dX6_cede_119 e23 ?_
      refine zr_iload_n C0 dX6_cede_120 rfl 1 rfl ?_
      refine zr_i2l C0 dX6_cede_121 ?_
      refine zr_lcmp C0 dX6_cede_122 ?_
      refine zr_if_ne C0 (tgt := 145) dX6_cede_123 (by decide) (fun c24 => ?_) (fun c24 => ?_)
      · have hf := zif_f (zl_ne.mp c24) hf
        exact w_X6_cede_b145 C0 ih hf
      · have hf := zif_t (zl_nen.mp c24) hf
        refine zr_iload C0 dX6_cede_126 9 rfl ?_
        refine zr_iload_n C0 dX6_cede_128 rfl 3 rfl ?_
        refine zr_iload C0 dX6_cede_129 4 rfl ?_
        refine zr_iload C0 dX6_cede_131 5 rfl ?_
        refine zr_iload C0 dX6_cede_133 6 rfl ?_
        obtain ⟨x27, h25, e26, hf⟩ := zbind2 hf
        refine zr_callS_r C0 cv_X6_131 (m_X6_isWithin C0.2.2.2.2.2.2.1 e26) (by decide) (by decide) rfl rfl (Nat.le_of_ble_eq_true rfl) dX6_cede_135 rfl ?_
        refine zr_if_eq C0 (tgt := 145) dX6_cede_138 (by decide) (fun c28 => ?_) (fun c28 => ?_)
        · have hf := zif_t c28 hf
          exact w_X6_cede_b145 C0 ih hf
        · have hf := zif_f c28 hf
          refine zr_iconst C0 (v := 1) dX6_cede_141 (by decide) ?_
          refine zr_goto C0 (tgt := 146) dX6_cede_142 (by decide) ?_
          exact w_X6_cede_b146 C0 ih hf
def f_X6_cede_b58 (E : zE) (p0 : Nat) (p1 : Int32) (p2 : Int32) (p3 : Int32) (p4 : Int32) (p5 : Int32) (p6 : Int32) (s0 : Nat) (s1 : Int32) (h : zH) : Option (Int32 × zH) :=
  (cko h s0 1).bind fun _ =>
  bnd2 (f_X6_throwsIf E s0 s1 (2 : Int32) h) fun x4 h2 =>
  if x4 = 0 then (
    (cko h2 p0 1).bind fun _ =>
    bnd2 (f_X6_isActive E p0 p1 h2) fun x9 h7 =>
    if x9 = 0 then (
      f_X6_cede_b83 E  h7
    ) else (
      (cko h7 p0 1).bind fun _ =>
      bnd2 (f_X6_isActive E p0 p2 h7) fun x14 h12 =>
      if x14 = 0 then (
        f_X6_cede_b83 E  h12
      ) else (
        f_X6_cede_l95 E E.1 p0 p1 p2 p3 p4 p5 p6 (0 : Int32) (0 : Int32) (0 : Int32) h12
      )
    )
  ) else (
    f_X6_cede_b65 E  h2
  )
theorem w_X6_cede_b58 (C0 : zCx p l e R s m args below meth c D B0 10 "FranchiseLedgerModel" cX6_cede E 5 155 (Option.some Jvm.ClassFile.FieldType.int) "cede") {r : Int32} {h' : zH} {p0 : Nat} {p1 : Int32} {p2 : Int32} {p3 : Int32} {p4 : Int32} {p5 : Int32} {p6 : Int32} {s0 : Nat} {s1 : Int32} {h : zH} (hf : f_X6_cede_b58 E p0 p1 p2 p3 p4 p5 p6 s0 s1 h = some (r, h')) : zW p l e R s m args below meth c D B0 10 (zEnd D B0 R below args s (zoI r) h') h 58 [(0, .ref p0), (1, .int p1), (2, .int p2), (3, .int p3), (4, .int p4), (5, .int p5), (6, .int p6)] [.int s1, .ref s0] := by
  unfold f_X6_cede_b58 at hf
  refine zr_iconst C0 (v := 2) dX6_cede_58 (by decide) ?_
  obtain ⟨_, e1, hf⟩ := zbind hf
  obtain ⟨x4, h2, e3, hf⟩ := zbind2 hf
  refine zr_callV_r C0 cv_X6_81_X6 rfl (zcko e1) (m_X6_throwsIf C0.2.2.2.2.2.2.1 e3) (by decide) (by decide) rfl rfl (Nat.le_of_ble_eq_true rfl) dX6_cede_59 rfl ?_
  refine zr_if_eq C0 (tgt := 67) dX6_cede_62 (by decide) (fun c5 => ?_) (fun c5 => ?_)
  · have hf := zif_t c5 hf
    refine zr_aload_n C0 dX6_cede_67 rfl 0 rfl ?_
    refine zr_iload_n C0 dX6_cede_68 rfl 1 rfl ?_
    obtain ⟨_, e6, hf⟩ := zbind hf
    obtain ⟨x9, h7, e8, hf⟩ := zbind2 hf
    refine zr_callV_r C0 cv_X6_128_X6 rfl (zcko e6) (m_X6_isActive C0.2.2.2.2.2.2.1 e8) (by decide) (by decide) rfl rfl (Nat.le_of_ble_eq_true rfl) dX6_cede_69 rfl ?_
    refine zr_if_eq C0 (tgt := 83) dX6_cede_72 (by decide) (fun c10 => ?_) (fun c10 => ?_)
    · have hf := zif_t c10 hf
      refine zr_sub [] rfl ?_
      exact w_X6_cede_b83 C0 hf
    · have hf := zif_f c10 hf
      refine zr_aload_n C0 dX6_cede_75 rfl 0 rfl ?_
      refine zr_iload_n C0 dX6_cede_76 rfl 2 rfl ?_
      obtain ⟨_, e11, hf⟩ := zbind hf
      obtain ⟨x14, h12, e13, hf⟩ := zbind2 hf
      refine zr_callV_r C0 cv_X6_128_X6 rfl (zcko e11) (m_X6_isActive C0.2.2.2.2.2.2.1 e13) (by decide) (by decide) rfl rfl (Nat.le_of_ble_eq_true rfl) dX6_cede_77 rfl ?_
      refine zr_if_ne C0 (tgt := 86) dX6_cede_80 (by decide) (fun c15 => ?_) (fun c15 => ?_)
      · have hf := zif_f c15 hf
        refine zr_iconst C0 (v := 0) dX6_cede_86 (by decide) ?_
        refine zr_istore (i := 7) (lv' := [(7, .int (0 : Int32)), (0, .ref p0), (1, .int p1), (2, .int p2), (3, .int p3), (4, .int p4), (5, .int p5), (6, .int p6)]) C0 dX6_cede_87 (by decide) (by first | rfl | simp [zst1, zst2, zcat_rf]) ?_
        refine zr_iconst C0 (v := 0) dX6_cede_89 (by decide) ?_
        refine zr_istore (i := 8) (lv' := [(8, .int (0 : Int32)), (7, .int (0 : Int32)), (0, .ref p0), (1, .int p1), (2, .int p2), (3, .int p3), (4, .int p4), (5, .int p5), (6, .int p6)]) C0 dX6_cede_90 (by decide) (by first | rfl | simp [zst1, zst2, zcat_rf]) ?_
        refine zr_iconst C0 (v := 0) dX6_cede_92 (by decide) ?_
        refine zr_istore (i := 9) (lv' := [(9, .int (0 : Int32)), (8, .int (0 : Int32)), (7, .int (0 : Int32)), (0, .ref p0), (1, .int p1), (2, .int p2), (3, .int p3), (4, .int p4), (5, .int p5), (6, .int p6)]) C0 dX6_cede_93 (by decide) (by first | rfl | simp [zst1, zst2, zcat_rf]) ?_
        refine zr_sub [3, 4, 5, 6, 7, 8, 9, 2, 1, 0] rfl ?_
        exact w_X6_cede_l95 C0 _ _ _ _ _ _ _ _ _ _ _ _ hf
      · have hf := zif_t c15 hf
        refine zr_sub [] rfl ?_
        exact w_X6_cede_b83 C0 hf
  · have hf := zif_f c5 hf
    refine zr_sub [] rfl ?_
    exact w_X6_cede_b65 C0 hf
def f_X6_cede_b53 (E : zE) (p0 : Nat) (p1 : Int32) (p2 : Int32) (p3 : Int32) (p4 : Int32) (p5 : Int32) (p6 : Int32) (s0 : Nat) (h : zH) : Option (Int32 × zH) :=
  f_X6_cede_b58 E p0 p1 p2 p3 p4 p5 p6 s0 (1 : Int32) h
theorem w_X6_cede_b53 (C0 : zCx p l e R s m args below meth c D B0 10 "FranchiseLedgerModel" cX6_cede E 5 155 (Option.some Jvm.ClassFile.FieldType.int) "cede") {r : Int32} {h' : zH} {p0 : Nat} {p1 : Int32} {p2 : Int32} {p3 : Int32} {p4 : Int32} {p5 : Int32} {p6 : Int32} {s0 : Nat} {h : zH} (hf : f_X6_cede_b53 E p0 p1 p2 p3 p4 p5 p6 s0 h = some (r, h')) : zW p l e R s m args below meth c D B0 10 (zEnd D B0 R below args s (zoI r) h') h 53 [(0, .ref p0), (1, .int p1), (2, .int p2), (3, .int p3), (4, .int p4), (5, .int p5), (6, .int p6)] [.ref s0] := by
  unfold f_X6_cede_b53 at hf
  refine zr_iconst C0 (v := 1) dX6_cede_53 (by decide) ?_
  refine zr_goto C0 (tgt := 58) dX6_cede_54 (by decide) ?_
  exact w_X6_cede_b58 C0 hf
def f_X6_cede_b27 (E : zE) (p0 : Nat) (p1 : Int32) (p2 : Int32) (p3 : Int32) (p4 : Int32) (p5 : Int32) (p6 : Int32) (s0 : Nat) (s1 : Int32) (h : zH) : Option (Int32 × zH) :=
  (cko h s0 1).bind fun _ =>
  bnd2 (f_X6_throwsIf E s0 s1 (1 : Int32) h) fun x4 h2 =>
  if x4 = 0 then (
    if p1 = p2 then (
      f_X6_cede_b53 E p0 p1 p2 p3 p4 p5 p6 p0 h2
    ) else (
      bnd2 (f_X6_isArea E p3 p4 p5 p6 h2) fun x9 h7 =>
      if x9 = 0 then (
        f_X6_cede_b53 E p0 p1 p2 p3 p4 p5 p6 p0 h7
      ) else (
        f_X6_cede_b58 E p0 p1 p2 p3 p4 p5 p6 p0 (0 : Int32) h7
      )
    )
  ) else (
    f_X6_cede_b65 E  h2
  )
theorem w_X6_cede_b27 (C0 : zCx p l e R s m args below meth c D B0 10 "FranchiseLedgerModel" cX6_cede E 5 155 (Option.some Jvm.ClassFile.FieldType.int) "cede") {r : Int32} {h' : zH} {p0 : Nat} {p1 : Int32} {p2 : Int32} {p3 : Int32} {p4 : Int32} {p5 : Int32} {p6 : Int32} {s0 : Nat} {s1 : Int32} {h : zH} (hf : f_X6_cede_b27 E p0 p1 p2 p3 p4 p5 p6 s0 s1 h = some (r, h')) : zW p l e R s m args below meth c D B0 10 (zEnd D B0 R below args s (zoI r) h') h 27 [(0, .ref p0), (1, .int p1), (2, .int p2), (3, .int p3), (4, .int p4), (5, .int p5), (6, .int p6)] [.int s1, .ref s0] := by
  unfold f_X6_cede_b27 at hf
  refine zr_iconst C0 (v := 1) dX6_cede_27 (by decide) ?_
  obtain ⟨_, e1, hf⟩ := zbind hf
  obtain ⟨x4, h2, e3, hf⟩ := zbind2 hf
  refine zr_callV_r C0 cv_X6_81_X6 rfl (zcko e1) (m_X6_throwsIf C0.2.2.2.2.2.2.1 e3) (by decide) (by decide) rfl rfl (Nat.le_of_ble_eq_true rfl) dX6_cede_28 rfl ?_
  refine zr_if_ne C0 (tgt := 65) dX6_cede_31 (by decide) (fun c5 => ?_) (fun c5 => ?_)
  · have hf := zif_f c5 hf
    refine zr_sub [] rfl ?_
    exact w_X6_cede_b65 C0 hf
  · have hf := zif_t c5 hf
    refine zr_aload_n C0 dX6_cede_34 rfl 0 rfl ?_
    refine zr_iload_n C0 dX6_cede_35 rfl 1 rfl ?_
    refine zr_iload_n C0 dX6_cede_36 rfl 2 rfl ?_
    refine zr_icmp_eq C0 (tgt := 53) dX6_cede_37 (by decide) (fun c6 => ?_) (fun c6 => ?_)
    · have hf := zif_t c6 hf
      exact w_X6_cede_b53 C0 hf
    · have hf := zif_f c6 hf
      refine zr_iload_n C0 dX6_cede_40 rfl 3 rfl ?_
      refine zr_iload C0 dX6_cede_41 4 rfl ?_
      refine zr_iload C0 dX6_cede_43 5 rfl ?_
      refine zr_iload C0 dX6_cede_45 6 rfl ?_
      obtain ⟨x9, h7, e8, hf⟩ := zbind2 hf
      refine zr_callS_r C0 cv_X6_124 (m_X6_isArea C0.2.2.2.2.2.2.1 e8) (by decide) (by decide) rfl rfl (Nat.le_of_ble_eq_true rfl) dX6_cede_47 rfl ?_
      refine zr_if_ne C0 (tgt := 57) dX6_cede_50 (by decide) (fun c10 => ?_) (fun c10 => ?_)
      · have hf := zif_f c10 hf
        refine zr_iconst C0 (v := 0) dX6_cede_57 (by decide) ?_
        exact w_X6_cede_b58 C0 hf
      · have hf := zif_t c10 hf
        exact w_X6_cede_b53 C0 hf
def f_X6_cede_b22 (E : zE) (p0 : Nat) (p1 : Int32) (p2 : Int32) (p3 : Int32) (p4 : Int32) (p5 : Int32) (p6 : Int32) (s0 : Nat) (h : zH) : Option (Int32 × zH) :=
  f_X6_cede_b27 E p0 p1 p2 p3 p4 p5 p6 s0 (1 : Int32) h
theorem w_X6_cede_b22 (C0 : zCx p l e R s m args below meth c D B0 10 "FranchiseLedgerModel" cX6_cede E 5 155 (Option.some Jvm.ClassFile.FieldType.int) "cede") {r : Int32} {h' : zH} {p0 : Nat} {p1 : Int32} {p2 : Int32} {p3 : Int32} {p4 : Int32} {p5 : Int32} {p6 : Int32} {s0 : Nat} {h : zH} (hf : f_X6_cede_b22 E p0 p1 p2 p3 p4 p5 p6 s0 h = some (r, h')) : zW p l e R s m args below meth c D B0 10 (zEnd D B0 R below args s (zoI r) h') h 22 [(0, .ref p0), (1, .int p1), (2, .int p2), (3, .int p3), (4, .int p4), (5, .int p5), (6, .int p6)] [.ref s0] := by
  unfold f_X6_cede_b22 at hf
  refine zr_iconst C0 (v := 1) dX6_cede_22 (by decide) ?_
  refine zr_goto C0 (tgt := 27) dX6_cede_23 (by decide) ?_
  exact w_X6_cede_b27 C0 hf
def f_X6_cede_b0 (E : zE) (p0 : Nat) (p1 : Int32) (p2 : Int32) (p3 : Int32) (p4 : Int32) (p5 : Int32) (p6 : Int32) (h : zH) : Option (Int32 × zH) :=
  (pF h p0 1 2 (.int (0 : Int32))).bind fun h1 =>
  (cko h1 p0 1).bind fun _ =>
  bnd2 (f_X6_isFranchisee E p0 p1 h1) fun x6 h4 =>
  if x6 = 0 then (
    f_X6_cede_b22 E p0 p1 p2 p3 p4 p5 p6 p0 h4
  ) else (
    (cko h4 p0 1).bind fun _ =>
    bnd2 (f_X6_isFranchisee E p0 p2 h4) fun x11 h9 =>
    if x11 = 0 then (
      f_X6_cede_b22 E p0 p1 p2 p3 p4 p5 p6 p0 h9
    ) else (
      f_X6_cede_b27 E p0 p1 p2 p3 p4 p5 p6 p0 (0 : Int32) h9
    )
  )
theorem w_X6_cede_b0 (C0 : zCx p l e R s m args below meth c D B0 10 "FranchiseLedgerModel" cX6_cede E 5 155 (Option.some Jvm.ClassFile.FieldType.int) "cede") {r : Int32} {h' : zH} {p0 : Nat} {p1 : Int32} {p2 : Int32} {p3 : Int32} {p4 : Int32} {p5 : Int32} {p6 : Int32} {h : zH} (hf : f_X6_cede_b0 E p0 p1 p2 p3 p4 p5 p6 h = some (r, h')) : zW p l e R s m args below meth c D B0 10 (zEnd D B0 R below args s (zoI r) h') h 0 [(0, .ref p0), (1, .int p1), (2, .int p2), (3, .int p3), (4, .int p4), (5, .int p5), (6, .int p6)] [] := by
  unfold f_X6_cede_b0 at hf
  refine zr_aload_n C0 dX6_cede_0 rfl 0 rfl ?_
  refine zr_iconst C0 (v := 0) dX6_cede_1 (by decide) ?_
  obtain ⟨h1, e2, hf⟩ := zbind hf
  refine zr_put C0 pl_X6_50_X6 dX6_cede_2 (fun h => by cases h) rfl rfl e2 ?_
  refine zr_aload_n C0 dX6_cede_5 rfl 0 rfl ?_
  refine zr_aload_n C0 dX6_cede_6 rfl 0 rfl ?_
  refine zr_iload_n C0 dX6_cede_7 rfl 1 rfl ?_
  obtain ⟨_, e3, hf⟩ := zbind hf
  obtain ⟨x6, h4, e5, hf⟩ := zbind2 hf
  refine zr_callV_r C0 cv_X6_85_X6 rfl (zcko e3) (m_X6_isFranchisee C0.2.2.2.2.2.2.1 e5) (by decide) (by decide) rfl rfl (Nat.le_of_ble_eq_true rfl) dX6_cede_8 rfl ?_
  refine zr_if_eq C0 (tgt := 22) dX6_cede_11 (by decide) (fun c7 => ?_) (fun c7 => ?_)
  · have hf := zif_t c7 hf
    exact w_X6_cede_b22 C0 hf
  · have hf := zif_f c7 hf
    refine zr_aload_n C0 dX6_cede_14 rfl 0 rfl ?_
    refine zr_iload_n C0 dX6_cede_15 rfl 2 rfl ?_
    obtain ⟨_, e8, hf⟩ := zbind hf
    obtain ⟨x11, h9, e10, hf⟩ := zbind2 hf
    refine zr_callV_r C0 cv_X6_85_X6 rfl (zcko e8) (m_X6_isFranchisee C0.2.2.2.2.2.2.1 e10) (by decide) (by decide) rfl rfl (Nat.le_of_ble_eq_true rfl) dX6_cede_16 rfl ?_
    refine zr_if_ne C0 (tgt := 26) dX6_cede_19 (by decide) (fun c12 => ?_) (fun c12 => ?_)
    · have hf := zif_f c12 hf
      refine zr_iconst C0 (v := 0) dX6_cede_26 (by decide) ?_
      exact w_X6_cede_b27 C0 hf
    · have hf := zif_t c12 hf
      exact w_X6_cede_b22 C0 hf
def f_X6_cede (E : zE) (p0 : Nat) (p1 : Int32) (p2 : Int32) (p3 : Int32) (p4 : Int32) (p5 : Int32) (p6 : Int32) (h : zH) : Option (Int32 × zH) := f_X6_cede_b0 E p0 p1 p2 p3 p4 p5 p6 h
theorem m_X6_cede {l : Launch} (hst : l.stackTraces = false) {D : zD} {B0 : Nat} {E : zE} {p0 : Nat} {p1 : Int32} {p2 : Int32} {p3 : Int32} {p4 : Int32} {p5 : Int32} {p6 : Int32} {h h' : zH} {r : Int32} (hf : f_X6_cede E p0 p1 p2 p3 p4 p5 p6 h = some (r, h')) : zMet l yX6_cede (ws_ yX6_cede cX6_cede 10 (Option.some Jvm.ClassFile.FieldType.int)) 5 155 D B0 E [.ref p0, .int p1, .int p2, .int p3, .int p4, .int p5, .int p6] h (zoI r) h' := by
  unfold f_X6_cede at hf
  refine zMet_of hst (by decide +kernel) rfl rfl (Nat.le_of_ble_eq_true rfl) (fun p e R s m below meth c C0 hno => ?_)
  show zW _ _ _ _ _ _ _ _ _ _ _ _ _ _ _ _ [(0, .ref p0), (1, .int p1), (2, .int p2), (3, .int p3), (4, .int p4), (5, .int p5), (6, .int p6)] []
  exact w_X6_cede_b0 C0 hf
def f_X6_isOutlet_b0 (E : zE) (p0 : Nat) (p1 : Int32) (h : zH) : Option (Int32 × zH) :=
  (gR h p0 1 0).bind fun x1 =>
  (dL h x1 (3 : Int32)).bind fun x3 =>
  bnd2 (f_X6_inRange E (p1.toInt64) (0 : Int64) (x3 - (1 : Int64)) h) fun x7 h5 =>
  (zgd .boolean x7).bind fun _ =>
  some (x7, h5)
theorem w_X6_isOutlet_b0 (C0 : zCx p l e R s m args below meth c D B0 2 "FranchiseLedgerModel" cX6_isOutlet E 2 85 (Option.some Jvm.ClassFile.FieldType.boolean) "isOutlet") {r : Int32} {h' : zH} {p0 : Nat} {p1 : Int32} {h : zH} (hf : f_X6_isOutlet_b0 E p0 p1 h = some (r, h')) : zW p l e R s m args below meth c D B0 2 (zEnd D B0 R below args s (zoI r) h') h 0 [(0, .ref p0), (1, .int p1)] [] := by
  unfold f_X6_isOutlet_b0 at hf
  refine zr_iload_n C0 dX6_isOutlet_0 rfl 1 rfl ?_
  refine zr_i2l C0 dX6_isOutlet_1 ?_
  refine zr_lconst C0 (v := 0) dX6_isOutlet_2 (by decide) ?_
  refine zr_aload_n C0 dX6_isOutlet_3 rfl 0 rfl ?_
  obtain ⟨x1, e2, hf⟩ := zbind hf
  refine zr_get C0 fl_X6_9_X6 dX6_isOutlet_4 (zgR e2) ?_
  refine zr_iconst C0 (v := 3) dX6_isOutlet_7 (by decide) ?_
  obtain ⟨x3, e4, hf⟩ := zbind hf
  refine zr_lald C0 dX6_isOutlet_8 e4 ?_
  refine zr_lconst C0 (v := 1) dX6_isOutlet_9 (by decide) ?_
  refine zr_lsub C0 dX6_isOutlet_10 ?_
  obtain ⟨x7, h5, e6, hf⟩ := zbind2 hf
  refine zr_callS_r C0 cv_X6_53 (m_X6_inRange C0.2.2.2.2.2.2.1 e6) (by decide) (by decide) rfl rfl (Nat.le_of_ble_eq_true rfl) dX6_isOutlet_11 rfl ?_
  obtain ⟨_, e8, hf⟩ := zbind hf
  refine zretW hf ?_
  exact zr_iret C0 (ty := .boolean) rfl (zgd_n e8) dX6_isOutlet_14 rfl
def f_X6_isOutlet (E : zE) (p0 : Nat) (p1 : Int32) (h : zH) : Option (Int32 × zH) := f_X6_isOutlet_b0 E p0 p1 h
theorem m_X6_isOutlet {l : Launch} (hst : l.stackTraces = false) {D : zD} {B0 : Nat} {E : zE} {p0 : Nat} {p1 : Int32} {h h' : zH} {r : Int32} (hf : f_X6_isOutlet E p0 p1 h = some (r, h')) : zMet l yX6_isOutlet (ws_ yX6_isOutlet cX6_isOutlet 2 (Option.some Jvm.ClassFile.FieldType.boolean)) 2 85 D B0 E [.ref p0, .int p1] h (zoI r) h' := by
  unfold f_X6_isOutlet at hf
  refine zMet_of hst (by decide +kernel) rfl rfl (Nat.le_of_ble_eq_true rfl) (fun p e R s m below meth c C0 hno => ?_)
  show zW _ _ _ _ _ _ _ _ _ _ _ _ _ _ _ _ [(0, .ref p0), (1, .int p1)] []
  exact w_X6_isOutlet_b0 C0 hf
def f_X6_outletOwner_b37 (E : zE) (s0 : Int32) (h : zH) : Option (Int32 × zH) :=
  some (s0, h)
theorem w_X6_outletOwner_b37 (C0 : zCx p l e R s m args below meth c D B0 2 "FranchiseLedgerModel" cX6_outletOwner E 3 106 (Option.some Jvm.ClassFile.FieldType.int) "outletOwner") {r : Int32} {h' : zH} {s0 : Int32} {h : zH} (hf : f_X6_outletOwner_b37 E s0 h = some (r, h')) : zW p l e R s m args below meth c D B0 2 (zEnd D B0 R below args s (zoI r) h') h 37 [] [.int s0] := by
  unfold f_X6_outletOwner_b37 at hf
  refine zretW hf ?_
  exact zr_iret C0 (ty := .int) rfl rfl dX6_outletOwner_37 rfl
def f_X6_outletOwner_b19 (E : zE) (p0 : Nat) (p1 : Int32) (s0 : Nat) (s1 : Int32) (h : zH) : Option (Int32 × zH) :=
  (cko h s0 1).bind fun _ =>
  bnd2 (f_X6_throwsIf E s0 s1 (1 : Int32) h) fun x4 h2 =>
  if x4 = 0 then (
    (cko h2 p0 1).bind fun _ =>
    bnd2 (f_X6_ofOutlet E p0 p1 (0 : Int32) h2) fun x9 h7 =>
    f_X6_outletOwner_b37 E (x9.toInt32) h7
  ) else (
    f_X6_outletOwner_b37 E (0 : Int32) h2
  )
theorem w_X6_outletOwner_b19 (C0 : zCx p l e R s m args below meth c D B0 2 "FranchiseLedgerModel" cX6_outletOwner E 3 106 (Option.some Jvm.ClassFile.FieldType.int) "outletOwner") {r : Int32} {h' : zH} {p0 : Nat} {p1 : Int32} {s0 : Nat} {s1 : Int32} {h : zH} (hf : f_X6_outletOwner_b19 E p0 p1 s0 s1 h = some (r, h')) : zW p l e R s m args below meth c D B0 2 (zEnd D B0 R below args s (zoI r) h') h 19 [(0, .ref p0), (1, .int p1)] [.int s1, .ref s0] := by
  unfold f_X6_outletOwner_b19 at hf
  refine zr_iconst C0 (v := 1) dX6_outletOwner_19 (by decide) ?_
  obtain ⟨_, e1, hf⟩ := zbind hf
  obtain ⟨x4, h2, e3, hf⟩ := zbind2 hf
  refine zr_callV_r C0 cv_X6_81_X6 rfl (zcko e1) (m_X6_throwsIf C0.2.2.2.2.2.2.1 e3) (by decide) (by decide) rfl rfl (Nat.le_of_ble_eq_true rfl) dX6_outletOwner_20 rfl ?_
  refine zr_if_eq C0 (tgt := 30) dX6_outletOwner_23 (by decide) (fun c5 => ?_) (fun c5 => ?_)
  · have hf := zif_t c5 hf
    refine zr_aload_n C0 dX6_outletOwner_30 rfl 0 rfl ?_
    refine zr_iload_n C0 dX6_outletOwner_31 rfl 1 rfl ?_
    refine zr_iconst C0 (v := 0) dX6_outletOwner_32 (by decide) ?_
    obtain ⟨_, e6, hf⟩ := zbind hf
    obtain ⟨x9, h7, e8, hf⟩ := zbind2 hf
    refine zr_callV_r C0 cv_X6_113_X6 rfl (zcko e6) (m_X6_ofOutlet C0.2.2.2.2.2.2.1 e8) (by decide) (by decide) rfl rfl (Nat.le_of_ble_eq_true rfl) dX6_outletOwner_33 rfl ?_
    refine zr_l2i C0 dX6_outletOwner_36 ?_
    refine zr_sub [] rfl ?_
    exact w_X6_outletOwner_b37 C0 hf
  · have hf := zif_f c5 hf
    refine zr_iconst C0 (v := 0) dX6_outletOwner_26 (by decide) ?_
    refine zr_goto C0 (tgt := 37) dX6_outletOwner_27 (by decide) ?_
    refine zr_sub [] rfl ?_
    exact w_X6_outletOwner_b37 C0 hf
def f_X6_outletOwner_b0 (E : zE) (p0 : Nat) (p1 : Int32) (h : zH) : Option (Int32 × zH) :=
  (pF h p0 1 2 (.int (0 : Int32))).bind fun h1 =>
  (cko h1 p0 1).bind fun _ =>
  bnd2 (f_X6_isOutlet E p0 p1 h1) fun x6 h4 =>
  if x6 = 0 then (
    f_X6_outletOwner_b19 E p0 p1 p0 (1 : Int32) h4
  ) else (
    f_X6_outletOwner_b19 E p0 p1 p0 (0 : Int32) h4
  )
theorem w_X6_outletOwner_b0 (C0 : zCx p l e R s m args below meth c D B0 2 "FranchiseLedgerModel" cX6_outletOwner E 3 106 (Option.some Jvm.ClassFile.FieldType.int) "outletOwner") {r : Int32} {h' : zH} {p0 : Nat} {p1 : Int32} {h : zH} (hf : f_X6_outletOwner_b0 E p0 p1 h = some (r, h')) : zW p l e R s m args below meth c D B0 2 (zEnd D B0 R below args s (zoI r) h') h 0 [(0, .ref p0), (1, .int p1)] [] := by
  unfold f_X6_outletOwner_b0 at hf
  refine zr_aload_n C0 dX6_outletOwner_0 rfl 0 rfl ?_
  refine zr_iconst C0 (v := 0) dX6_outletOwner_1 (by decide) ?_
  obtain ⟨h1, e2, hf⟩ := zbind hf
  refine zr_put C0 pl_X6_50_X6 dX6_outletOwner_2 (fun h => by cases h) rfl rfl e2 ?_
  refine zr_aload_n C0 dX6_outletOwner_5 rfl 0 rfl ?_
  refine zr_aload_n C0 dX6_outletOwner_6 rfl 0 rfl ?_
  refine zr_iload_n C0 dX6_outletOwner_7 rfl 1 rfl ?_
  obtain ⟨_, e3, hf⟩ := zbind hf
  obtain ⟨x6, h4, e5, hf⟩ := zbind2 hf
  refine zr_callV_r C0 cv_X6_141_X6 rfl (zcko e3) (m_X6_isOutlet C0.2.2.2.2.2.2.1 e5) (by decide) (by decide) rfl rfl (Nat.le_of_ble_eq_true rfl) dX6_outletOwner_8 rfl ?_
  refine zr_if_ne C0 (tgt := 18) dX6_outletOwner_11 (by decide) (fun c7 => ?_) (fun c7 => ?_)
  · have hf := zif_f c7 hf
    refine zr_iconst C0 (v := 0) dX6_outletOwner_18 (by decide) ?_
    exact w_X6_outletOwner_b19 C0 hf
  · have hf := zif_t c7 hf
    refine zr_iconst C0 (v := 1) dX6_outletOwner_14 (by decide) ?_
    refine zr_goto C0 (tgt := 19) dX6_outletOwner_15 (by decide) ?_
    exact w_X6_outletOwner_b19 C0 hf
def f_X6_outletOwner (E : zE) (p0 : Nat) (p1 : Int32) (h : zH) : Option (Int32 × zH) := f_X6_outletOwner_b0 E p0 p1 h
theorem m_X6_outletOwner {l : Launch} (hst : l.stackTraces = false) {D : zD} {B0 : Nat} {E : zE} {p0 : Nat} {p1 : Int32} {h h' : zH} {r : Int32} (hf : f_X6_outletOwner E p0 p1 h = some (r, h')) : zMet l yX6_outletOwner (ws_ yX6_outletOwner cX6_outletOwner 2 (Option.some Jvm.ClassFile.FieldType.int)) 3 106 D B0 E [.ref p0, .int p1] h (zoI r) h' := by
  unfold f_X6_outletOwner at hf
  refine zMet_of hst (by decide +kernel) rfl rfl (Nat.le_of_ble_eq_true rfl) (fun p e R s m below meth c C0 hno => ?_)
  show zW _ _ _ _ _ _ _ _ _ _ _ _ _ _ _ _ [(0, .ref p0), (1, .int p1)] []
  exact w_X6_outletOwner_b0 C0 hf
def f_X6_outletCell_b48 (E : zE) (s0 : Int32) (h : zH) : Option (Int32 × zH) :=
  some (s0, h)
theorem w_X6_outletCell_b48 (C0 : zCx p l e R s m args below meth c D B0 2 "FranchiseLedgerModel" cX6_outletCell E 3 106 (Option.some Jvm.ClassFile.FieldType.int) "outletCell") {r : Int32} {h' : zH} {s0 : Int32} {h : zH} (hf : f_X6_outletCell_b48 E s0 h = some (r, h')) : zW p l e R s m args below meth c D B0 2 (zEnd D B0 R below args s (zoI r) h') h 48 [] [.int s0] := by
  unfold f_X6_outletCell_b48 at hf
  refine zretW hf ?_
  exact zr_iret C0 (ty := .int) rfl rfl dX6_outletCell_48 rfl
def f_X6_outletCell_b19 (E : zE) (p0 : Nat) (p1 : Int32) (s0 : Nat) (s1 : Int32) (h : zH) : Option (Int32 × zH) :=
  (cko h s0 1).bind fun _ =>
  bnd2 (f_X6_throwsIf E s0 s1 (1 : Int32) h) fun x4 h2 =>
  if x4 = 0 then (
    (cko h2 p0 1).bind fun _ =>
    bnd2 (f_X6_ofOutlet E p0 p1 (2 : Int32) h2) fun x9 h7 =>
    (cko h7 p0 1).bind fun _ =>
    bnd2 (f_X6_ofOutlet E p0 p1 (1 : Int32) h7) fun x13 h11 =>
    f_X6_outletCell_b48 E ((((100 : Int64) * x9) + x13).toInt32) h11
  ) else (
    f_X6_outletCell_b48 E (0 : Int32) h2
  )
theorem w_X6_outletCell_b19 (C0 : zCx p l e R s m args below meth c D B0 2 "FranchiseLedgerModel" cX6_outletCell E 3 106 (Option.some Jvm.ClassFile.FieldType.int) "outletCell") {r : Int32} {h' : zH} {p0 : Nat} {p1 : Int32} {s0 : Nat} {s1 : Int32} {h : zH} (hf : f_X6_outletCell_b19 E p0 p1 s0 s1 h = some (r, h')) : zW p l e R s m args below meth c D B0 2 (zEnd D B0 R below args s (zoI r) h') h 19 [(0, .ref p0), (1, .int p1)] [.int s1, .ref s0] := by
  unfold f_X6_outletCell_b19 at hf
  refine zr_iconst C0 (v := 1) dX6_outletCell_19 (by decide) ?_
  obtain ⟨_, e1, hf⟩ := zbind hf
  obtain ⟨x4, h2, e3, hf⟩ := zbind2 hf
  refine zr_callV_r C0 cv_X6_81_X6 rfl (zcko e1) (m_X6_throwsIf C0.2.2.2.2.2.2.1 e3) (by decide) (by decide) rfl rfl (Nat.le_of_ble_eq_true rfl) dX6_outletCell_20 rfl ?_
  refine zr_if_eq C0 (tgt := 30) dX6_outletCell_23 (by decide) (fun c5 => ?_) (fun c5 => ?_)
  · have hf := zif_t c5 hf
    refine zr_ldc2 C0 (v := 100) q2752 dX6_outletCell_30 ?_
    refine zr_aload_n C0 dX6_outletCell_33 rfl 0 rfl ?_
    refine zr_iload_n C0 dX6_outletCell_34 rfl 1 rfl ?_
    refine zr_iconst C0 (v := 2) dX6_outletCell_35 (by decide) ?_
    obtain ⟨_, e6, hf⟩ := zbind hf
    obtain ⟨x9, h7, e8, hf⟩ := zbind2 hf
    refine zr_callV_r C0 cv_X6_113_X6 rfl (zcko e6) (m_X6_ofOutlet C0.2.2.2.2.2.2.1 e8) (by decide) (by decide) rfl rfl (Nat.le_of_ble_eq_true rfl) dX6_outletCell_36 rfl ?_
    refine zr_lmul C0 dX6_outletCell_39 ?_
    refine zr_aload_n C0 dX6_outletCell_40 rfl 0 rfl ?_
    refine zr_iload_n C0 dX6_outletCell_41 rfl 1 rfl ?_
    refine zr_iconst C0 (v := 1) dX6_outletCell_42 (by decide) ?_
    obtain ⟨_, e10, hf⟩ := zbind hf
    obtain ⟨x13, h11, e12, hf⟩ := zbind2 hf
    refine zr_callV_r C0 cv_X6_113_X6 rfl (zcko e10) (m_X6_ofOutlet C0.2.2.2.2.2.2.1 e12) (by decide) (by decide) rfl rfl (Nat.le_of_ble_eq_true rfl) dX6_outletCell_43 rfl ?_
    refine zr_ladd C0 dX6_outletCell_46 ?_
    refine zr_l2i C0 dX6_outletCell_47 ?_
    refine zr_sub [] rfl ?_
    exact w_X6_outletCell_b48 C0 hf
  · have hf := zif_f c5 hf
    refine zr_iconst C0 (v := 0) dX6_outletCell_26 (by decide) ?_
    refine zr_goto C0 (tgt := 48) dX6_outletCell_27 (by decide) ?_
    refine zr_sub [] rfl ?_
    exact w_X6_outletCell_b48 C0 hf
def f_X6_outletCell_b0 (E : zE) (p0 : Nat) (p1 : Int32) (h : zH) : Option (Int32 × zH) :=
  (pF h p0 1 2 (.int (0 : Int32))).bind fun h1 =>
  (cko h1 p0 1).bind fun _ =>
  bnd2 (f_X6_isOutlet E p0 p1 h1) fun x6 h4 =>
  if x6 = 0 then (
    f_X6_outletCell_b19 E p0 p1 p0 (1 : Int32) h4
  ) else (
    f_X6_outletCell_b19 E p0 p1 p0 (0 : Int32) h4
  )
theorem w_X6_outletCell_b0 (C0 : zCx p l e R s m args below meth c D B0 2 "FranchiseLedgerModel" cX6_outletCell E 3 106 (Option.some Jvm.ClassFile.FieldType.int) "outletCell") {r : Int32} {h' : zH} {p0 : Nat} {p1 : Int32} {h : zH} (hf : f_X6_outletCell_b0 E p0 p1 h = some (r, h')) : zW p l e R s m args below meth c D B0 2 (zEnd D B0 R below args s (zoI r) h') h 0 [(0, .ref p0), (1, .int p1)] [] := by
  unfold f_X6_outletCell_b0 at hf
  refine zr_aload_n C0 dX6_outletCell_0 rfl 0 rfl ?_
  refine zr_iconst C0 (v := 0) dX6_outletCell_1 (by decide) ?_
  obtain ⟨h1, e2, hf⟩ := zbind hf
  refine zr_put C0 pl_X6_50_X6 dX6_outletCell_2 (fun h => by cases h) rfl rfl e2 ?_
  refine zr_aload_n C0 dX6_outletCell_5 rfl 0 rfl ?_
  refine zr_aload_n C0 dX6_outletCell_6 rfl 0 rfl ?_
  refine zr_iload_n C0 dX6_outletCell_7 rfl 1 rfl ?_
  obtain ⟨_, e3, hf⟩ := zbind hf
  obtain ⟨x6, h4, e5, hf⟩ := zbind2 hf
  refine zr_callV_r C0 cv_X6_141_X6 rfl (zcko e3) (m_X6_isOutlet C0.2.2.2.2.2.2.1 e5) (by decide) (by decide) rfl rfl (Nat.le_of_ble_eq_true rfl) dX6_outletCell_8 rfl ?_
  refine zr_if_ne C0 (tgt := 18) dX6_outletCell_11 (by decide) (fun c7 => ?_) (fun c7 => ?_)
  · have hf := zif_f c7 hf
    refine zr_iconst C0 (v := 0) dX6_outletCell_18 (by decide) ?_
    exact w_X6_outletCell_b19 C0 hf
  · have hf := zif_t c7 hf
    refine zr_iconst C0 (v := 1) dX6_outletCell_14 (by decide) ?_
    refine zr_goto C0 (tgt := 19) dX6_outletCell_15 (by decide) ?_
    exact w_X6_outletCell_b19 C0 hf
def f_X6_outletCell (E : zE) (p0 : Nat) (p1 : Int32) (h : zH) : Option (Int32 × zH) := f_X6_outletCell_b0 E p0 p1 h
theorem m_X6_outletCell {l : Launch} (hst : l.stackTraces = false) {D : zD} {B0 : Nat} {E : zE} {p0 : Nat} {p1 : Int32} {h h' : zH} {r : Int32} (hf : f_X6_outletCell E p0 p1 h = some (r, h')) : zMet l yX6_outletCell (ws_ yX6_outletCell cX6_outletCell 2 (Option.some Jvm.ClassFile.FieldType.int)) 3 106 D B0 E [.ref p0, .int p1] h (zoI r) h' := by
  unfold f_X6_outletCell at hf
  refine zMet_of hst (by decide +kernel) rfl rfl (Nat.le_of_ble_eq_true rfl) (fun p e R s m below meth c C0 hno => ?_)
  show zW _ _ _ _ _ _ _ _ _ _ _ _ _ _ _ _ [(0, .ref p0), (1, .int p1)] []
  exact w_X6_outletCell_b0 C0 hf
def f_X6_putOutlet_b0 (E : zE) (p0 : Nat) (p1 : Int32) (p2 : Int32) (p3 : Int32) (p4 : Int32) (h : zH) : Option (Unit × zH) :=
  (gR h p0 1 0).bind fun x1 =>
  (dL h x1 (((5054 : Int32) * p1) + (3 : Int32))).bind fun x3 =>
  (gR h p0 1 0).bind fun x5 =>
  (sL h x5 (((((5054 : Int32) * p1) + (186 : Int32)) + ((4 : Int32) * (x3.toInt32))) + (0 : Int32)) (p2.toInt64)).bind fun h7 =>
  (gR h7 p0 1 0).bind fun x9 =>
  (sL h7 x9 (((((5054 : Int32) * p1) + (186 : Int32)) + ((4 : Int32) * (x3.toInt32))) + (1 : Int32)) (p3.toInt64)).bind fun h11 =>
  (gR h11 p0 1 0).bind fun x13 =>
  (sL h11 x13 (((((5054 : Int32) * p1) + (186 : Int32)) + ((4 : Int32) * (x3.toInt32))) + (2 : Int32)) (p4.toInt64)).bind fun h15 =>
  (gR h15 p0 1 0).bind fun x17 =>
  (sL h15 x17 (((((5054 : Int32) * p1) + (186 : Int32)) + ((4 : Int32) * (x3.toInt32))) + (3 : Int32)) (0 : Int64)).bind fun h19 =>
  (gR h19 p0 1 0).bind fun x21 =>
  (dL h19 x21 (((5054 : Int32) * p1) + (3 : Int32))).bind fun x23 =>
  (sL h19 x21 (((5054 : Int32) * p1) + (3 : Int32)) (x23 + (1 : Int64))).bind fun h25 =>
  some ((), h25)
theorem w_X6_putOutlet_b0 (C0 : zCx p l e R s m args below meth c D B0 6 "FranchiseLedgerModel" cX6_putOutlet E 1 60 (Option.none : Option Jvm.ClassFile.FieldType) "putOutlet") {r : Unit} {h' : zH} {p0 : Nat} {p1 : Int32} {p2 : Int32} {p3 : Int32} {p4 : Int32} {h : zH} (hf : f_X6_putOutlet_b0 E p0 p1 p2 p3 p4 h = some (r, h')) : zW p l e R s m args below meth c D B0 6 (zEnd D B0 R below args s (zoV r) h') h 0 [(0, .ref p0), (1, .int p1), (2, .int p2), (3, .int p3), (4, .int p4)] [] := by
  unfold f_X6_putOutlet_b0 at hf
  refine zr_sipush C0 (v := 5054) dX6_putOutlet_0 (by decide) ?_
  refine zr_iload_n C0 dX6_putOutlet_3 rfl 1 rfl ?_
  refine zr_imul C0 dX6_putOutlet_4 ?_
  refine zr_sipush C0 (v := 186) dX6_putOutlet_5 (by decide) ?_
  refine zr_iadd C0 dX6_putOutlet_8 ?_
  refine zr_iconst C0 (v := 4) dX6_putOutlet_9 (by decide) ?_
  refine zr_aload_n C0 dX6_putOutlet_10 rfl 0 rfl ?_
  obtain ⟨x1, e2, hf⟩ := zbind hf
  refine zr_get C0 fl_X6_9_X6 dX6_putOutlet_11 (zgR e2) ?_
  refine zr_sipush C0 (v := 5054) dX6_putOutlet_14 (by decide) ?_
  refine zr_iload_n C0 dX6_putOutlet_17 rfl 1 rfl ?_
  refine zr_imul C0 dX6_putOutlet_18 ?_
  refine zr_iconst C0 (v := 3) dX6_putOutlet_19 (by decide) ?_
  refine zr_iadd C0 dX6_putOutlet_20 ?_
  obtain ⟨x3, e4, hf⟩ := zbind hf
  refine zr_lald C0 dX6_putOutlet_21 e4 ?_
  refine zr_l2i C0 dX6_putOutlet_22 ?_
  refine zr_imul C0 dX6_putOutlet_23 ?_
  refine zr_iadd C0 dX6_putOutlet_24 ?_
  refine zr_istore (i := 5) (lv' := [(5, .int ((((5054 : Int32) * p1) + (186 : Int32)) + ((4 : Int32) * (x3.toInt32)))), (0, .ref p0), (1, .int p1), (2, .int p2), (3, .int p3), (4, .int p4)]) C0 dX6_putOutlet_25 (by decide) (by first | rfl | simp [zst1, zst2, zcat_rf]) ?_
  refine zr_aload_n C0 dX6_putOutlet_27 rfl 1 rfl ?_
  obtain ⟨x5, e6, hf⟩ := zbind hf
  refine zr_get C0 fl_X6_9_X6 dX6_putOutlet_28 (zgR e6) ?_
  refine zr_iload C0 dX6_putOutlet_31 0 rfl ?_
  refine zr_iconst C0 (v := 0) dX6_putOutlet_33 (by decide) ?_
  refine zr_iadd C0 dX6_putOutlet_34 ?_
  refine zr_iload_n C0 dX6_putOutlet_35 rfl 3 rfl ?_
  refine zr_i2l C0 dX6_putOutlet_36 ?_
  obtain ⟨h7, e8, hf⟩ := zbind hf
  refine zr_last C0 dX6_putOutlet_37 e8 ?_
  refine zr_aload_n C0 dX6_putOutlet_38 rfl 1 rfl ?_
  obtain ⟨x9, e10, hf⟩ := zbind hf
  refine zr_get C0 fl_X6_9_X6 dX6_putOutlet_39 (zgR e10) ?_
  refine zr_iload C0 dX6_putOutlet_42 0 rfl ?_
  refine zr_iconst C0 (v := 1) dX6_putOutlet_44 (by decide) ?_
  refine zr_iadd C0 dX6_putOutlet_45 ?_
  refine zr_iload_n C0 dX6_putOutlet_46 rfl 4 rfl ?_
  refine zr_i2l C0 dX6_putOutlet_47 ?_
  obtain ⟨h11, e12, hf⟩ := zbind hf
  refine zr_last C0 dX6_putOutlet_48 e12 ?_
  refine zr_aload_n C0 dX6_putOutlet_49 rfl 1 rfl ?_
  obtain ⟨x13, e14, hf⟩ := zbind hf
  refine zr_get C0 fl_X6_9_X6 dX6_putOutlet_50 (zgR e14) ?_
  refine zr_iload C0 dX6_putOutlet_53 0 rfl ?_
  refine zr_iconst C0 (v := 2) dX6_putOutlet_55 (by decide) ?_
  refine zr_iadd C0 dX6_putOutlet_56 ?_
  refine zr_iload C0 dX6_putOutlet_57 5 rfl ?_
  refine zr_i2l C0 dX6_putOutlet_59 ?_
  obtain ⟨h15, e16, hf⟩ := zbind hf
  refine zr_last C0 dX6_putOutlet_60 e16 ?_
  refine zr_aload_n C0 dX6_putOutlet_61 rfl 1 rfl ?_
  obtain ⟨x17, e18, hf⟩ := zbind hf
  refine zr_get C0 fl_X6_9_X6 dX6_putOutlet_62 (zgR e18) ?_
  refine zr_iload C0 dX6_putOutlet_65 0 rfl ?_
  refine zr_iconst C0 (v := 3) dX6_putOutlet_67 (by decide) ?_
  refine zr_iadd C0 dX6_putOutlet_68 ?_
  refine zr_lconst C0 (v := 0) dX6_putOutlet_69 (by decide) ?_
  obtain ⟨h19, e20, hf⟩ := zbind hf
  refine zr_last C0 dX6_putOutlet_70 e20 ?_
  refine zr_aload_n C0 dX6_putOutlet_71 rfl 1 rfl ?_
  obtain ⟨x21, e22, hf⟩ := zbind hf
  refine zr_get C0 fl_X6_9_X6 dX6_putOutlet_72 (zgR e22) ?_
  refine zr_sipush C0 (v := 5054) dX6_putOutlet_75 (by decide) ?_
  refine zr_iload_n C0 dX6_putOutlet_78 rfl 2 rfl ?_
  refine zr_imul C0 dX6_putOutlet_79 ?_
  refine zr_iconst C0 (v := 3) dX6_putOutlet_80 (by decide) ?_
  refine zr_iadd C0 dX6_putOutlet_81 ?_
  refine zr_dup2_11 C0 dX6_putOutlet_82 rfl rfl ?_
  obtain ⟨x23, e24, hf⟩ := zbind hf
  refine zr_lald C0 dX6_putOutlet_83 e24 ?_
  refine zr_lconst C0 (v := 1) dX6_putOutlet_84 (by decide) ?_
  refine zr_ladd C0 dX6_putOutlet_85 ?_
  obtain ⟨h25, e26, hf⟩ := zbind hf
  refine zr_last C0 dX6_putOutlet_86 e26 ?_
  refine zretW hf ?_
  exact zr_vret C0 rfl dX6_putOutlet_87 rfl
def f_X6_putOutlet (E : zE) (p0 : Nat) (p1 : Int32) (p2 : Int32) (p3 : Int32) (p4 : Int32) (h : zH) : Option (Unit × zH) := f_X6_putOutlet_b0 E p0 p1 p2 p3 p4 h
theorem m_X6_putOutlet {l : Launch} (hst : l.stackTraces = false) {D : zD} {B0 : Nat} {E : zE} {p0 : Nat} {p1 : Int32} {p2 : Int32} {p3 : Int32} {p4 : Int32} {h h' : zH} {r : Unit} (hf : f_X6_putOutlet E p0 p1 p2 p3 p4 h = some (r, h')) : zMet l yX6_putOutlet (ws_ yX6_putOutlet cX6_putOutlet 6 (Option.none : Option Jvm.ClassFile.FieldType)) 1 60 D B0 E [.ref p0, .int p1, .int p2, .int p3, .int p4] h (zoV r) h' := by
  unfold f_X6_putOutlet at hf
  refine zMet_of hst (by decide +kernel) rfl rfl (Nat.le_of_ble_eq_true rfl) (fun p e R s m below meth c C0 hno => ?_)
  show zW _ _ _ _ _ _ _ _ _ _ _ _ _ _ _ _ [(0, .ref p0), (1, .int p1), (2, .int p2), (3, .int p3), (4, .int p4)] []
  exact w_X6_putOutlet_b0 C0 hf
def f_X6_openOutlet_b47 (E : zE) (h : zH) : Option (Int32 × zH) :=
  some ((0 : Int32), h)
theorem w_X6_openOutlet_b47 (C0 : zCx p l e R s m args below meth c D B0 4 "FranchiseLedgerModel" cX6_openOutlet E 4 125 (Option.some Jvm.ClassFile.FieldType.int) "openOutlet") {r : Int32} {h' : zH} {h : zH} (hf : f_X6_openOutlet_b47 E  h = some (r, h')) : zW p l e R s m args below meth c D B0 4 (zEnd D B0 R below args s (zoI r) h') h 47 [] [] := by
  unfold f_X6_openOutlet_b47 at hf
  refine zr_iconst C0 (v := 0) dX6_openOutlet_47 (by decide) ?_
  refine zretW hf ?_
  exact zr_iret C0 (ty := .int) rfl rfl dX6_openOutlet_48 rfl
def f_X6_openOutlet_b80 (E : zE) (h : zH) : Option (Int32 × zH) :=
  some ((-2 : Int32), h)
theorem w_X6_openOutlet_b80 (C0 : zCx p l e R s m args below meth c D B0 4 "FranchiseLedgerModel" cX6_openOutlet E 4 125 (Option.some Jvm.ClassFile.FieldType.int) "openOutlet") {r : Int32} {h' : zH} {h : zH} (hf : f_X6_openOutlet_b80 E  h = some (r, h')) : zW p l e R s m args below meth c D B0 4 (zEnd D B0 R below args s (zoI r) h') h 80 [] [] := by
  unfold f_X6_openOutlet_b80 at hf
  refine zr_bipush C0 (v := -2) dX6_openOutlet_80 (by decide) ?_
  refine zretW hf ?_
  exact zr_iret C0 (ty := .int) rfl rfl dX6_openOutlet_82 rfl
def f_X6_openOutlet_b40 (E : zE) (p0 : Nat) (p1 : Int32) (p2 : Int32) (p3 : Int32) (s0 : Nat) (s1 : Int32) (h : zH) : Option (Int32 × zH) :=
  (cko h s0 1).bind fun _ =>
  bnd2 (f_X6_throwsIf E s0 s1 (2 : Int32) h) fun x4 h2 =>
  if x4 = 0 then (
    (cko h2 p0 1).bind fun _ =>
    bnd2 (f_X6_isActive E p0 p1 h2) fun x9 h7 =>
    if x9 = 0 then (
      f_X6_openOutlet_b80 E  h7
    ) else (
      (cko h7 p0 1).bind fun _ =>
      bnd2 (f_X6_ownerOf E p0 p2 p3 h7) fun x14 h12 =>
      if x14 = p1 then (
        (cko h12 p0 1).bind fun _ =>
        bnd2 (f_X6_hasOutlet E p0 (((30 : Int32) * p3) + p2) h12) fun x19 h17 =>
        if x19 = 0 then (
          (gR h17 p0 1 0).bind fun x21 =>
          (dL h17 x21 (3 : Int32)).bind fun x23 =>
          if x23 = (16 : Int64) then (
            some ((-3 : Int32), h17)
          ) else (
            (cko h17 p0 1).bind fun _ =>
            bnd2 (f_X6_putOutlet E p0 (0 : Int32) p1 p2 p3 h17) fun x29 h27 =>
            (gR h27 p0 1 0).bind fun x30 =>
            (dL h27 x30 (3 : Int32)).bind fun x32 =>
            some (((x32.toInt32) - (1 : Int32)), h27)
          )
        ) else (
          f_X6_openOutlet_b80 E  h17
        )
      ) else (
        f_X6_openOutlet_b80 E  h12
      )
    )
  ) else (
    f_X6_openOutlet_b47 E  h2
  )
theorem w_X6_openOutlet_b40 (C0 : zCx p l e R s m args below meth c D B0 4 "FranchiseLedgerModel" cX6_openOutlet E 4 125 (Option.some Jvm.ClassFile.FieldType.int) "openOutlet") {r : Int32} {h' : zH} {p0 : Nat} {p1 : Int32} {p2 : Int32} {p3 : Int32} {s0 : Nat} {s1 : Int32} {h : zH} (hf : f_X6_openOutlet_b40 E p0 p1 p2 p3 s0 s1 h = some (r, h')) : zW p l e R s m args below meth c D B0 4 (zEnd D B0 R below args s (zoI r) h') h 40 [(0, .ref p0), (1, .int p1), (2, .int p2), (3, .int p3)] [.int s1, .ref s0] := by
  unfold f_X6_openOutlet_b40 at hf
  refine zr_iconst C0 (v := 2) dX6_openOutlet_40 (by decide) ?_
  obtain ⟨_, e1, hf⟩ := zbind hf
  obtain ⟨x4, h2, e3, hf⟩ := zbind2 hf
  refine zr_callV_r C0 cv_X6_81_X6 rfl (zcko e1) (m_X6_throwsIf C0.2.2.2.2.2.2.1 e3) (by decide) (by decide) rfl rfl (Nat.le_of_ble_eq_true rfl) dX6_openOutlet_41 rfl ?_
  refine zr_if_eq C0 (tgt := 49) dX6_openOutlet_44 (by decide) (fun c5 => ?_) (fun c5 => ?_)
  · have hf := zif_t c5 hf
    refine zr_aload_n C0 dX6_openOutlet_49 rfl 0 rfl ?_
    refine zr_iload_n C0 dX6_openOutlet_50 rfl 1 rfl ?_
    obtain ⟨_, e6, hf⟩ := zbind hf
    obtain ⟨x9, h7, e8, hf⟩ := zbind2 hf
    refine zr_callV_r C0 cv_X6_128_X6 rfl (zcko e6) (m_X6_isActive C0.2.2.2.2.2.2.1 e8) (by decide) (by decide) rfl rfl (Nat.le_of_ble_eq_true rfl) dX6_openOutlet_51 rfl ?_
    refine zr_if_eq C0 (tgt := 80) dX6_openOutlet_54 (by decide) (fun c10 => ?_) (fun c10 => ?_)
    · have hf := zif_t c10 hf
      refine zr_sub [] rfl ?_
      exact w_X6_openOutlet_b80 C0 hf
    · have hf := zif_f c10 hf
      refine zr_aload_n C0 dX6_openOutlet_57 rfl 0 rfl ?_
      refine zr_iload_n C0 dX6_openOutlet_58 rfl 2 rfl ?_
      refine zr_iload_n C0 dX6_openOutlet_59 rfl 3 rfl ?_
      obtain ⟨_, e11, hf⟩ := zbind hf
      obtain ⟨x14, h12, e13, hf⟩ := zbind2 hf
      refine zr_callV_r C0 cv_X6_71_X6 rfl (zcko e11) (m_X6_ownerOf C0.2.2.2.2.2.2.1 e13) (by decide) (by decide) rfl rfl (Nat.le_of_ble_eq_true rfl) dX6_openOutlet_60 rfl ?_
      refine zr_iload_n C0 dX6_openOutlet_63 rfl 1 rfl ?_
      refine zr_icmp_ne C0 (tgt := 80) dX6_openOutlet_64 (by decide) (fun c15 => ?_) (fun c15 => ?_)
      · have hf := zif_f c15 hf
        refine zr_sub [] rfl ?_
        exact w_X6_openOutlet_b80 C0 hf
      · have hf := zif_t c15 hf
        refine zr_aload_n C0 dX6_openOutlet_67 rfl 0 rfl ?_
        refine zr_bipush C0 (v := 30) dX6_openOutlet_68 (by decide) ?_
        refine zr_iload_n C0 dX6_openOutlet_70 rfl 3 rfl ?_
        refine zr_imul C0 dX6_openOutlet_71 ?_
        refine zr_iload_n C0 dX6_openOutlet_72 rfl 2 rfl ?_
        refine zr_iadd C0 dX6_openOutlet_73 ?_
        obtain ⟨_, e16, hf⟩ := zbind hf
        obtain ⟨x19, h17, e18, hf⟩ := zbind2 hf
        refine zr_callV_r C0 cv_X6_135_X6 rfl (zcko e16) (m_X6_hasOutlet C0.2.2.2.2.2.2.1 e18) (by decide) (by decide) rfl rfl (Nat.le_of_ble_eq_true rfl) dX6_openOutlet_74 rfl ?_
        refine zr_if_eq C0 (tgt := 83) dX6_openOutlet_77 (by decide) (fun c20 => ?_) (fun c20 => ?_)
        · have hf := zif_t c20 hf
          refine zr_aload_n C0 dX6_openOutlet_83 rfl 0 rfl ?_
          obtain ⟨x21, e22, hf⟩ := zbind hf
          refine zr_get C0 fl_X6_9_X6 dX6_openOutlet_84 (zgR e22) ?_
          refine zr_iconst C0 (v := 3) dX6_openOutlet_87 (by decide) ?_
          obtain ⟨x23, e24, hf⟩ := zbind hf
          refine zr_lald C0 dX6_openOutlet_88 e24 ?_
          refine zr_ldc2 C0 (v := 16) q2757 dX6_openOutlet_89 ?_
          refine zr_lcmp C0 dX6_openOutlet_92 ?_
          refine zr_if_ne C0 (tgt := 99) dX6_openOutlet_93 (by decide) (fun c25 => ?_) (fun c25 => ?_)
          · have hf := zif_f (zl_ne.mp c25) hf
            refine zr_aload_n C0 dX6_openOutlet_99 rfl 0 rfl ?_
            refine zr_iconst C0 (v := 0) dX6_openOutlet_100 (by decide) ?_
            refine zr_iload_n C0 dX6_openOutlet_101 rfl 1 rfl ?_
            refine zr_iload_n C0 dX6_openOutlet_102 rfl 2 rfl ?_
            refine zr_iload_n C0 dX6_openOutlet_103 rfl 3 rfl ?_
            obtain ⟨_, e26, hf⟩ := zbind hf
            obtain ⟨x29, h27, e28, hf⟩ := zbind2 hf
            refine zr_callV_r C0 cv_X6_148_X6 rfl (zcko e26) (m_X6_putOutlet C0.2.2.2.2.2.2.1 e28) (by decide) (by decide) rfl rfl (Nat.le_of_ble_eq_true rfl) dX6_openOutlet_104 rfl ?_
            refine zr_aload_n C0 dX6_openOutlet_107 rfl 0 rfl ?_
            obtain ⟨x30, e31, hf⟩ := zbind hf
            refine zr_get C0 fl_X6_9_X6 dX6_openOutlet_108 (zgR e31) ?_
            refine zr_iconst C0 (v := 3) dX6_openOutlet_111 (by decide) ?_
            obtain ⟨x32, e33, hf⟩ := zbind hf
            refine zr_lald C0 dX6_openOutlet_112 e33 ?_
            refine zr_l2i C0 dX6_openOutlet_113 ?_
            refine zr_iconst C0 (v := 1) dX6_openOutlet_114 (by decide) ?_
            refine zr_isub C0 dX6_openOutlet_115 ?_
            refine zretW hf ?_
            exact zr_iret C0 (ty := .int) rfl rfl dX6_openOutlet_116 rfl
          · have hf := zif_t (zl_nen.mp c25) hf
            refine zr_bipush C0 (v := -3) dX6_openOutlet_96 (by decide) ?_
            refine zretW hf ?_
            exact zr_iret C0 (ty := .int) rfl rfl dX6_openOutlet_98 rfl
        · have hf := zif_f c20 hf
          refine zr_sub [] rfl ?_
          exact w_X6_openOutlet_b80 C0 hf
  · have hf := zif_f c5 hf
    refine zr_sub [] rfl ?_
    exact w_X6_openOutlet_b47 C0 hf
def f_X6_openOutlet_b19 (E : zE) (p0 : Nat) (p1 : Int32) (p2 : Int32) (p3 : Int32) (s0 : Nat) (s1 : Int32) (h : zH) : Option (Int32 × zH) :=
  (cko h s0 1).bind fun _ =>
  bnd2 (f_X6_throwsIf E s0 s1 (1 : Int32) h) fun x4 h2 =>
  if x4 = 0 then (
    bnd2 (f_X6_isCell E p2 p3 h2) fun x8 h6 =>
    if x8 = 0 then (
      f_X6_openOutlet_b40 E p0 p1 p2 p3 p0 (1 : Int32) h6
    ) else (
      f_X6_openOutlet_b40 E p0 p1 p2 p3 p0 (0 : Int32) h6
    )
  ) else (
    f_X6_openOutlet_b47 E  h2
  )
theorem w_X6_openOutlet_b19 (C0 : zCx p l e R s m args below meth c D B0 4 "FranchiseLedgerModel" cX6_openOutlet E 4 125 (Option.some Jvm.ClassFile.FieldType.int) "openOutlet") {r : Int32} {h' : zH} {p0 : Nat} {p1 : Int32} {p2 : Int32} {p3 : Int32} {s0 : Nat} {s1 : Int32} {h : zH} (hf : f_X6_openOutlet_b19 E p0 p1 p2 p3 s0 s1 h = some (r, h')) : zW p l e R s m args below meth c D B0 4 (zEnd D B0 R below args s (zoI r) h') h 19 [(0, .ref p0), (1, .int p1), (2, .int p2), (3, .int p3)] [.int s1, .ref s0] := by
  unfold f_X6_openOutlet_b19 at hf
  refine zr_iconst C0 (v := 1) dX6_openOutlet_19 (by decide) ?_
  obtain ⟨_, e1, hf⟩ := zbind hf
  obtain ⟨x4, h2, e3, hf⟩ := zbind2 hf
  refine zr_callV_r C0 cv_X6_81_X6 rfl (zcko e1) (m_X6_throwsIf C0.2.2.2.2.2.2.1 e3) (by decide) (by decide) rfl rfl (Nat.le_of_ble_eq_true rfl) dX6_openOutlet_20 rfl ?_
  refine zr_if_ne C0 (tgt := 47) dX6_openOutlet_23 (by decide) (fun c5 => ?_) (fun c5 => ?_)
  · have hf := zif_f c5 hf
    refine zr_sub [] rfl ?_
    exact w_X6_openOutlet_b47 C0 hf
  · have hf := zif_t c5 hf
    refine zr_aload_n C0 dX6_openOutlet_26 rfl 0 rfl ?_
    refine zr_iload_n C0 dX6_openOutlet_27 rfl 2 rfl ?_
    refine zr_iload_n C0 dX6_openOutlet_28 rfl 3 rfl ?_
    obtain ⟨x8, h6, e7, hf⟩ := zbind2 hf
    refine zr_callS_r C0 cv_X6_67 (m_X6_isCell C0.2.2.2.2.2.2.1 e7) (by decide) (by decide) rfl rfl (Nat.le_of_ble_eq_true rfl) dX6_openOutlet_29 rfl ?_
    refine zr_if_ne C0 (tgt := 39) dX6_openOutlet_32 (by decide) (fun c9 => ?_) (fun c9 => ?_)
    · have hf := zif_f c9 hf
      refine zr_iconst C0 (v := 0) dX6_openOutlet_39 (by decide) ?_
      exact w_X6_openOutlet_b40 C0 hf
    · have hf := zif_t c9 hf
      refine zr_iconst C0 (v := 1) dX6_openOutlet_35 (by decide) ?_
      refine zr_goto C0 (tgt := 40) dX6_openOutlet_36 (by decide) ?_
      exact w_X6_openOutlet_b40 C0 hf
def f_X6_openOutlet_b0 (E : zE) (p0 : Nat) (p1 : Int32) (p2 : Int32) (p3 : Int32) (h : zH) : Option (Int32 × zH) :=
  (pF h p0 1 2 (.int (0 : Int32))).bind fun h1 =>
  (cko h1 p0 1).bind fun _ =>
  bnd2 (f_X6_isFranchisee E p0 p1 h1) fun x6 h4 =>
  if x6 = 0 then (
    f_X6_openOutlet_b19 E p0 p1 p2 p3 p0 (1 : Int32) h4
  ) else (
    f_X6_openOutlet_b19 E p0 p1 p2 p3 p0 (0 : Int32) h4
  )
theorem w_X6_openOutlet_b0 (C0 : zCx p l e R s m args below meth c D B0 4 "FranchiseLedgerModel" cX6_openOutlet E 4 125 (Option.some Jvm.ClassFile.FieldType.int) "openOutlet") {r : Int32} {h' : zH} {p0 : Nat} {p1 : Int32} {p2 : Int32} {p3 : Int32} {h : zH} (hf : f_X6_openOutlet_b0 E p0 p1 p2 p3 h = some (r, h')) : zW p l e R s m args below meth c D B0 4 (zEnd D B0 R below args s (zoI r) h') h 0 [(0, .ref p0), (1, .int p1), (2, .int p2), (3, .int p3)] [] := by
  unfold f_X6_openOutlet_b0 at hf
  refine zr_aload_n C0 dX6_openOutlet_0 rfl 0 rfl ?_
  refine zr_iconst C0 (v := 0) dX6_openOutlet_1 (by decide) ?_
  obtain ⟨h1, e2, hf⟩ := zbind hf
  refine zr_put C0 pl_X6_50_X6 dX6_openOutlet_2 (fun h => by cases h) rfl rfl e2 ?_
  refine zr_aload_n C0 dX6_openOutlet_5 rfl 0 rfl ?_
  refine zr_aload_n C0 dX6_openOutlet_6 rfl 0 rfl ?_
  refine zr_iload_n C0 dX6_openOutlet_7 rfl 1 rfl ?_
  obtain ⟨_, e3, hf⟩ := zbind hf
  obtain ⟨x6, h4, e5, hf⟩ := zbind2 hf
  refine zr_callV_r C0 cv_X6_85_X6 rfl (zcko e3) (m_X6_isFranchisee C0.2.2.2.2.2.2.1 e5) (by decide) (by decide) rfl rfl (Nat.le_of_ble_eq_true rfl) dX6_openOutlet_8 rfl ?_
  refine zr_if_ne C0 (tgt := 18) dX6_openOutlet_11 (by decide) (fun c7 => ?_) (fun c7 => ?_)
  · have hf := zif_f c7 hf
    refine zr_iconst C0 (v := 0) dX6_openOutlet_18 (by decide) ?_
    exact w_X6_openOutlet_b19 C0 hf
  · have hf := zif_t c7 hf
    refine zr_iconst C0 (v := 1) dX6_openOutlet_14 (by decide) ?_
    refine zr_goto C0 (tgt := 19) dX6_openOutlet_15 (by decide) ?_
    exact w_X6_openOutlet_b19 C0 hf
def f_X6_openOutlet (E : zE) (p0 : Nat) (p1 : Int32) (p2 : Int32) (p3 : Int32) (h : zH) : Option (Int32 × zH) := f_X6_openOutlet_b0 E p0 p1 p2 p3 h
theorem m_X6_openOutlet {l : Launch} (hst : l.stackTraces = false) {D : zD} {B0 : Nat} {E : zE} {p0 : Nat} {p1 : Int32} {p2 : Int32} {p3 : Int32} {h h' : zH} {r : Int32} (hf : f_X6_openOutlet E p0 p1 p2 p3 h = some (r, h')) : zMet l yX6_openOutlet (ws_ yX6_openOutlet cX6_openOutlet 4 (Option.some Jvm.ClassFile.FieldType.int)) 4 125 D B0 E [.ref p0, .int p1, .int p2, .int p3] h (zoI r) h' := by
  unfold f_X6_openOutlet at hf
  refine zMet_of hst (by decide +kernel) rfl rfl (Nat.le_of_ble_eq_true rfl) (fun p e R s m below meth c C0 hno => ?_)
  show zW _ _ _ _ _ _ _ _ _ _ _ _ _ _ _ _ [(0, .ref p0), (1, .int p1), (2, .int p2), (3, .int p3)] []
  exact w_X6_openOutlet_b0 C0 hf
def f_X6_nearestOutlet_b85 (E : zE) (k5 : Nat → Int32 → Int32 → Int32 → Int32 → zH → Option (Int32 × zH)) (p0 : Nat) (p1 : Int32) (p2 : Int32) (p3 : Int32) (p4 : Int32) (h : zH) : Option (Int32 × zH) :=
  k5 p0 p1 p2 p3 (p4 + 1) h
theorem w_X6_nearestOutlet_b85 (C0 : zCx p l e R s m args below meth c D B0 6 "FranchiseLedgerModel" cX6_nearestOutlet E 3 103 (Option.some Jvm.ClassFile.FieldType.int) "nearestOutlet") {r : Int32} {h' : zH} {k5 : Nat → Int32 → Int32 → Int32 → Int32 → zH → Option (Int32 × zH)} (hk5 : ∀ (p0 : Nat) (p1 : Int32) (p2 : Int32) (p3 : Int32) (p4 : Int32) (h : zH), k5 p0 p1 p2 p3 p4 h = some (r, h') → zW p l e R s m args below meth c D B0 6 (zEnd D B0 R below args s (zoI r) h') h 5 [(0, .ref p0), (1, .int p1), (2, .int p2), (3, .int p3), (4, .int p4)] []) {p0 : Nat} {p1 : Int32} {p2 : Int32} {p3 : Int32} {p4 : Int32} {h : zH} (hf : f_X6_nearestOutlet_b85 E k5 p0 p1 p2 p3 p4 h = some (r, h')) : zW p l e R s m args below meth c D B0 6 (zEnd D B0 R below args s (zoI r) h') h 85 [(0, .ref p0), (1, .int p1), (2, .int p2), (3, .int p3), (4, .int p4)] [] := by
  unfold f_X6_nearestOutlet_b85 at hf
  refine zr_iinc (lv' := [(4, .int (p4 + 1)), (0, .ref p0), (1, .int p1), (2, .int p2), (3, .int p3)]) C0 dX6_nearestOutlet_85 4 rfl rfl (by decide) (by first | rfl | simp [zst1, zst2, zcat_rf]) ?_
  refine zr_goto C0 (tgt := 5) dX6_nearestOutlet_88 (by decide) ?_
  refine zr_sub [1, 2, 3, 4, 0] rfl ?_
  exact hk5 _ _ _ _ _ _ hf
def f_X6_nearestOutlet_b84 (E : zE) (k5 : Nat → Int32 → Int32 → Int32 → Int32 → zH → Option (Int32 × zH)) (p0 : Nat) (p1 : Int32) (p2 : Int32) (p4 : Int32) (s0 : Int32) (h : zH) : Option (Int32 × zH) :=
  f_X6_nearestOutlet_b85 E k5 p0 p1 p2 s0 p4 h
theorem w_X6_nearestOutlet_b84 (C0 : zCx p l e R s m args below meth c D B0 6 "FranchiseLedgerModel" cX6_nearestOutlet E 3 103 (Option.some Jvm.ClassFile.FieldType.int) "nearestOutlet") {r : Int32} {h' : zH} {k5 : Nat → Int32 → Int32 → Int32 → Int32 → zH → Option (Int32 × zH)} (hk5 : ∀ (p0 : Nat) (p1 : Int32) (p2 : Int32) (p3 : Int32) (p4 : Int32) (h : zH), k5 p0 p1 p2 p3 p4 h = some (r, h') → zW p l e R s m args below meth c D B0 6 (zEnd D B0 R below args s (zoI r) h') h 5 [(0, .ref p0), (1, .int p1), (2, .int p2), (3, .int p3), (4, .int p4)] []) {p0 : Nat} {p1 : Int32} {p2 : Int32} {p4 : Int32} {s0 : Int32} {h : zH} (hf : f_X6_nearestOutlet_b84 E k5 p0 p1 p2 p4 s0 h = some (r, h')) : zW p l e R s m args below meth c D B0 6 (zEnd D B0 R below args s (zoI r) h') h 84 [(0, .ref p0), (1, .int p1), (2, .int p2), (4, .int p4)] [.int s0] := by
  unfold f_X6_nearestOutlet_b84 at hf
  refine zr_istore_n (i := 3) (lv' := [(3, .int s0), (0, .ref p0), (1, .int p1), (2, .int p2), (4, .int p4)]) C0 dX6_nearestOutlet_84 rfl (by decide) (by first | rfl | simp [zst1, zst2, zcat_rf]) ?_
  refine zr_sub [1, 2, 3, 0, 4] rfl ?_
  exact w_X6_nearestOutlet_b85 C0 hk5 hf
def f_X6_nearestOutlet_b78 (E : zE) (k5 : Nat → Int32 → Int32 → Int32 → Int32 → zH → Option (Int32 × zH)) (p0 : Nat) (p1 : Int32) (p2 : Int32) (p4 : Int32) (p5 : Int32) (h : zH) : Option (Int32 × zH) :=
  f_X6_nearestOutlet_b84 E k5 p0 p1 p2 p4 p5 h
theorem w_X6_nearestOutlet_b78 (C0 : zCx p l e R s m args below meth c D B0 6 "FranchiseLedgerModel" cX6_nearestOutlet E 3 103 (Option.some Jvm.ClassFile.FieldType.int) "nearestOutlet") {r : Int32} {h' : zH} {k5 : Nat → Int32 → Int32 → Int32 → Int32 → zH → Option (Int32 × zH)} (hk5 : ∀ (p0 : Nat) (p1 : Int32) (p2 : Int32) (p3 : Int32) (p4 : Int32) (h : zH), k5 p0 p1 p2 p3 p4 h = some (r, h') → zW p l e R s m args below meth c D B0 6 (zEnd D B0 R below args s (zoI r) h') h 5 [(0, .ref p0), (1, .int p1), (2, .int p2), (3, .int p3), (4, .int p4)] []) {p0 : Nat} {p1 : Int32} {p2 : Int32} {p4 : Int32} {p5 : Int32} {h : zH} (hf : f_X6_nearestOutlet_b78 E k5 p0 p1 p2 p4 p5 h = some (r, h')) : zW p l e R s m args below meth c D B0 6 (zEnd D B0 R below args s (zoI r) h') h 78 [(0, .ref p0), (1, .int p1), (2, .int p2), (4, .int p4), (5, .int p5)] [] := by
  unfold f_X6_nearestOutlet_b78 at hf
  refine zr_iload C0 dX6_nearestOutlet_78 4 rfl ?_
  refine zr_goto C0 (tgt := 84) dX6_nearestOutlet_80 (by decide) ?_
  refine zr_sub [0, 1, 2, 3] rfl ?_
  exact w_X6_nearestOutlet_b84 C0 hk5 hf
def f_X6_nearestOutlet_b48 (E : zE) (k5 : Nat → Int32 → Int32 → Int32 → Int32 → zH → Option (Int32 × zH)) (p0 : Nat) (p1 : Int32) (p2 : Int32) (p3 : Int32) (p4 : Int32) (h : zH) : Option (Int32 × zH) :=
  (cko h p0 1).bind fun _ =>
  bnd2 (f_X6_cellOf E p0 p4 h) fun x4 h2 =>
  bnd2 (f_X6_apart E (p1 - p1 / (30 : Int32) * (30 : Int32)) (p1 / (30 : Int32)) x4 h2) fun x7 h5 =>
  if p3 = (-1 : Int32) then (
    f_X6_nearestOutlet_b78 E k5 p0 p1 p2 p4 x7 h5
  ) else (
    if p3 ≤ x7 then (
      f_X6_nearestOutlet_b84 E k5 p0 p1 p2 p4 p3 h5
    ) else (
      f_X6_nearestOutlet_b78 E k5 p0 p1 p2 p4 x7 h5
    )
  )
theorem w_X6_nearestOutlet_b48 (C0 : zCx p l e R s m args below meth c D B0 6 "FranchiseLedgerModel" cX6_nearestOutlet E 3 103 (Option.some Jvm.ClassFile.FieldType.int) "nearestOutlet") {r : Int32} {h' : zH} {k5 : Nat → Int32 → Int32 → Int32 → Int32 → zH → Option (Int32 × zH)} (hk5 : ∀ (p0 : Nat) (p1 : Int32) (p2 : Int32) (p3 : Int32) (p4 : Int32) (h : zH), k5 p0 p1 p2 p3 p4 h = some (r, h') → zW p l e R s m args below meth c D B0 6 (zEnd D B0 R below args s (zoI r) h') h 5 [(0, .ref p0), (1, .int p1), (2, .int p2), (3, .int p3), (4, .int p4)] []) {p0 : Nat} {p1 : Int32} {p2 : Int32} {p3 : Int32} {p4 : Int32} {h : zH} (hf : f_X6_nearestOutlet_b48 E k5 p0 p1 p2 p3 p4 h = some (r, h')) : zW p l e R s m args below meth c D B0 6 (zEnd D B0 R below args s (zoI r) h') h 48 [(0, .ref p0), (1, .int p1), (2, .int p2), (3, .int p3), (4, .int p4)] [] := by
  unfold f_X6_nearestOutlet_b48 at hf
  refine zr_iload_n C0 dX6_nearestOutlet_48 rfl 1 rfl ?_
  refine zr_bipush C0 (v := 30) dX6_nearestOutlet_49 (by decide) ?_
  refine zr_irem C0 dX6_nearestOutlet_51 (by decide) ?_
  refine zr_iload_n C0 dX6_nearestOutlet_52 rfl 1 rfl ?_
  refine zr_bipush C0 (v := 30) dX6_nearestOutlet_53 (by decide) ?_
  refine zr_idiv C0 dX6_nearestOutlet_55 (by decide) ?_
  refine zr_aload_n C0 dX6_nearestOutlet_56 rfl 0 rfl ?_
  refine zr_iload C0 dX6_nearestOutlet_57 4 rfl ?_
  obtain ⟨_, e1, hf⟩ := zbind hf
  obtain ⟨x4, h2, e3, hf⟩ := zbind2 hf
  refine zr_callV_r C0 cv_X6_121_X6 rfl (zcko e1) (m_X6_cellOf C0.2.2.2.2.2.2.1 e3) (by decide) (by decide) rfl rfl (Nat.le_of_ble_eq_true rfl) dX6_nearestOutlet_59 rfl ?_
  obtain ⟨x7, h5, e6, hf⟩ := zbind2 hf
  refine zr_callS_r C0 cv_X6_110 (m_X6_apart C0.2.2.2.2.2.2.1 e6) (by decide) (by decide) rfl rfl (Nat.le_of_ble_eq_true rfl) dX6_nearestOutlet_62 rfl ?_
  refine zr_istore (i := 5) (lv' := [(5, .int x7), (0, .ref p0), (1, .int p1), (2, .int p2), (3, .int p3), (4, .int p4)]) C0 dX6_nearestOutlet_65 (by decide) (by first | rfl | simp [zst1, zst2, zcat_rf]) ?_
  refine zr_iload_n C0 dX6_nearestOutlet_67 rfl 4 rfl ?_
  refine zr_iconst C0 (v := -1) dX6_nearestOutlet_68 (by decide) ?_
  refine zr_icmp_eq C0 (tgt := 78) dX6_nearestOutlet_69 (by decide) (fun c8 => ?_) (fun c8 => ?_)
  · have hf := zif_t c8 hf
    refine zr_sub [1, 2, 3, 5, 0] rfl ?_
    exact w_X6_nearestOutlet_b78 C0 hk5 hf
  · have hf := zif_f c8 hf
    refine zr_iload C0 dX6_nearestOutlet_72 0 rfl ?_
    refine zr_iload_n C0 dX6_nearestOutlet_74 rfl 4 rfl ?_
    refine zr_icmp_ge C0 (tgt := 83) dX6_nearestOutlet_75 (by decide) (fun c9 => ?_) (fun c9 => ?_)
    · have hf := zif_t c9 hf
      refine zr_iload_n C0 dX6_nearestOutlet_83 rfl 4 rfl ?_
      refine zr_sub [1, 2, 3, 5] rfl ?_
      exact w_X6_nearestOutlet_b84 C0 hk5 hf
    · have hf := zif_f c9 hf
      refine zr_sub [1, 2, 3, 5, 0] rfl ?_
      exact w_X6_nearestOutlet_b78 C0 hk5 hf
def f_X6_nearestOutlet_l5 (E : zE) : Nat → Nat → Int32 → Int32 → Int32 → Int32 → zH → Option (Int32 × zH)
  | 0, _, _, _, _, _, _ => none
  | n + 1, p0, p1, p2, p3, p4, h =>
    (gR h p0 1 0).bind fun x1 =>
    (dL h x1 (3 : Int32)).bind fun x3 =>
    if x3 ≤ (p4.toInt64) then (
      some (p3, h)
    ) else (
      (cko h p0 1).bind fun _ =>
      bnd2 (f_X6_isOpen E p0 p4 h) fun x9 h7 =>
      if x9 = 0 then (
        f_X6_nearestOutlet_b85 E (f_X6_nearestOutlet_l5 E n) p0 p1 p2 p3 p4 h7
      ) else (
        if p2 = (-1 : Int32) then (
          f_X6_nearestOutlet_b48 E (f_X6_nearestOutlet_l5 E n) p0 p1 p2 p3 p4 h7
        ) else (
          (cko h7 p0 1).bind fun _ =>
          bnd2 (f_X6_ofOutlet E p0 p4 (0 : Int32) h7) fun x15 h13 =>
          if x15 = (p2.toInt64) then (
            f_X6_nearestOutlet_b48 E (f_X6_nearestOutlet_l5 E n) p0 p1 p2 p3 p4 h13
          ) else (
            f_X6_nearestOutlet_b85 E (f_X6_nearestOutlet_l5 E n) p0 p1 p2 p3 p4 h13
          )
        )
      )
    )
theorem w_X6_nearestOutlet_l5 (C0 : zCx p l e R s m args below meth c D B0 6 "FranchiseLedgerModel" cX6_nearestOutlet E 3 103 (Option.some Jvm.ClassFile.FieldType.int) "nearestOutlet") {r : Int32} {h' : zH} : ∀ (n : Nat) (p0 : Nat) (p1 : Int32) (p2 : Int32) (p3 : Int32) (p4 : Int32) (h : zH), f_X6_nearestOutlet_l5 E n p0 p1 p2 p3 p4 h = some (r, h') → zW p l e R s m args below meth c D B0 6 (zEnd D B0 R below args s (zoI r) h') h 5 [(0, .ref p0), (1, .int p1), (2, .int p2), (3, .int p3), (4, .int p4)] [] := by
  intro n
  induction n with
  | zero =>
    intro p0 p1 p2 p3 p4 h hf
    unfold f_X6_nearestOutlet_l5 at hf
    cases hf
  | succ n ih =>
    intro p0 p1 p2 p3 p4 h hf
    unfold f_X6_nearestOutlet_l5 at hf
    refine zr_iload C0 dX6_nearestOutlet_5 4 rfl ?_
    refine zr_i2l C0 dX6_nearestOutlet_7 ?_
    refine zr_aload_n C0 dX6_nearestOutlet_8 rfl 0 rfl ?_
    obtain ⟨x1, e2, hf⟩ := zbind hf
    refine zr_get C0 fl_X6_9_X6 dX6_nearestOutlet_9 (zgR e2) ?_
    refine zr_iconst C0 (v := 3) dX6_nearestOutlet_12 (by decide) ?_
    obtain ⟨x3, e4, hf⟩ := zbind hf
    refine zr_lald C0 dX6_nearestOutlet_13 e4 ?_
    refine zr_lcmp C0 dX6_nearestOutlet_14 ?_
    refine zr_if_ge C0 (tgt := 91) dX6_nearestOutlet_15 (by decide) (fun c5 => ?_) (fun c5 => ?_)
    · have hf := zif_t (zl_ge.mp c5) hf
      refine zr_iload_n C0 dX6_nearestOutlet_91 rfl 3 rfl ?_
      refine zretW hf ?_
      exact zr_iret C0 (ty := .int) rfl rfl dX6_nearestOutlet_92 rfl
    · have hf := zif_f (zl_gen.mp c5) hf
      refine zr_aload_n C0 dX6_nearestOutlet_18 rfl 0 rfl ?_
      refine zr_iload C0 dX6_nearestOutlet_19 4 rfl ?_
      obtain ⟨_, e6, hf⟩ := zbind hf
      obtain ⟨x9, h7, e8, hf⟩ := zbind2 hf
      refine zr_callV_r C0 cv_X6_118_X6 rfl (zcko e6) (m_X6_isOpen C0.2.2.2.2.2.2.1 e8) (by decide) (by decide) rfl rfl (Nat.le_of_ble_eq_true rfl) dX6_nearestOutlet_21 rfl ?_
      refine zr_if_eq C0 (tgt := 85) dX6_nearestOutlet_24 (by decide) (fun c10 => ?_) (fun c10 => ?_)
      · have hf := zif_t c10 hf
        exact w_X6_nearestOutlet_b85 C0 ih hf
      · have hf := zif_f c10 hf
        refine zr_iload_n C0 dX6_nearestOutlet_27 rfl 2 rfl ?_
        refine zr_iconst C0 (v := -1) dX6_nearestOutlet_28 (by decide) ?_
        refine zr_icmp_eq C0 (tgt := 48) dX6_nearestOutlet_29 (by decide) (fun c11 => ?_) (fun c11 => ?_)
        · have hf := zif_t c11 hf
          exact w_X6_nearestOutlet_b48 C0 ih hf
        · have hf := zif_f c11 hf
          refine zr_aload_n C0 dX6_nearestOutlet_32 rfl 0 rfl ?_
          refine zr_iload C0 dX6_nearestOutlet_33 4 rfl ?_
          refine zr_iconst C0 (v := 0) dX6_nearestOutlet_35 (by decide) ?_
          obtain ⟨_, e12, hf⟩ := zbind hf
          obtain ⟨x15, h13, e14, hf⟩ := zbind2 hf
          refine zr_callV_r C0 cv_X6_113_X6 rfl (zcko e12) (m_X6_ofOutlet C0.2.2.2.2.2.2.1 e14) (by decide) (by decide) rfl rfl (Nat.le_of_ble_eq_true rfl) dX6_nearestOutlet_36 rfl ?_
          refine zr_iload_n C0 dX6_nearestOutlet_39 rfl 2 rfl ?_
          refine zr_i2l C0 dX6_nearestOutlet_40 ?_
          refine zr_lcmp C0 dX6_nearestOutlet_41 ?_
          refine zr_if_eq C0 (tgt := 48) dX6_nearestOutlet_42 (by decide) (fun c16 => ?_) (fun c16 => ?_)
          · have hf := zif_t (zl_eq.mp c16) hf
            exact w_X6_nearestOutlet_b48 C0 ih hf
          · have hf := zif_f (zl_eqn.mp c16) hf
            refine zr_goto C0 (tgt := 85) dX6_nearestOutlet_45 (by decide) ?_
            exact w_X6_nearestOutlet_b85 C0 ih hf
def f_X6_nearestOutlet_b0 (E : zE) (p0 : Nat) (p1 : Int32) (p2 : Int32) (h : zH) : Option (Int32 × zH) :=
  f_X6_nearestOutlet_l5 E E.1 p0 p1 p2 (-1 : Int32) (0 : Int32) h
theorem w_X6_nearestOutlet_b0 (C0 : zCx p l e R s m args below meth c D B0 6 "FranchiseLedgerModel" cX6_nearestOutlet E 3 103 (Option.some Jvm.ClassFile.FieldType.int) "nearestOutlet") {r : Int32} {h' : zH} {p0 : Nat} {p1 : Int32} {p2 : Int32} {h : zH} (hf : f_X6_nearestOutlet_b0 E p0 p1 p2 h = some (r, h')) : zW p l e R s m args below meth c D B0 6 (zEnd D B0 R below args s (zoI r) h') h 0 [(0, .ref p0), (1, .int p1), (2, .int p2)] [] := by
  unfold f_X6_nearestOutlet_b0 at hf
  refine zr_iconst C0 (v := -1) dX6_nearestOutlet_0 (by decide) ?_
  refine zr_istore_n (i := 3) (lv' := [(3, .int (-1 : Int32)), (0, .ref p0), (1, .int p1), (2, .int p2)]) C0 dX6_nearestOutlet_1 rfl (by decide) (by first | rfl | simp [zst1, zst2, zcat_rf]) ?_
  refine zr_iconst C0 (v := 0) dX6_nearestOutlet_2 (by decide) ?_
  refine zr_istore (i := 4) (lv' := [(4, .int (0 : Int32)), (3, .int (-1 : Int32)), (0, .ref p0), (1, .int p1), (2, .int p2)]) C0 dX6_nearestOutlet_3 (by decide) (by first | rfl | simp [zst1, zst2, zcat_rf]) ?_
  refine zr_sub [2, 3, 4, 1, 0] rfl ?_
  exact w_X6_nearestOutlet_l5 C0 _ _ _ _ _ _ _ hf
def f_X6_nearestOutlet (E : zE) (p0 : Nat) (p1 : Int32) (p2 : Int32) (h : zH) : Option (Int32 × zH) := f_X6_nearestOutlet_b0 E p0 p1 p2 h
theorem m_X6_nearestOutlet {l : Launch} (hst : l.stackTraces = false) {D : zD} {B0 : Nat} {E : zE} {p0 : Nat} {p1 : Int32} {p2 : Int32} {h h' : zH} {r : Int32} (hf : f_X6_nearestOutlet E p0 p1 p2 h = some (r, h')) : zMet l yX6_nearestOutlet (ws_ yX6_nearestOutlet cX6_nearestOutlet 6 (Option.some Jvm.ClassFile.FieldType.int)) 3 103 D B0 E [.ref p0, .int p1, .int p2] h (zoI r) h' := by
  unfold f_X6_nearestOutlet at hf
  refine zMet_of hst (by decide +kernel) rfl rfl (Nat.le_of_ble_eq_true rfl) (fun p e R s m below meth c C0 hno => ?_)
  show zW _ _ _ _ _ _ _ _ _ _ _ _ _ _ _ _ [(0, .ref p0), (1, .int p1), (2, .int p2)] []
  exact w_X6_nearestOutlet_b0 C0 hf
def f_X6_bestSite_b115 (E : zE) (s0 : Int32) (h : zH) : Option (Int32 × zH) :=
  some (s0, h)
theorem w_X6_bestSite_b115 (C0 : zCx p l e R s m args below meth c D B0 4 "FranchiseLedgerModel" cX6_bestSite E 4 128 (Option.some Jvm.ClassFile.FieldType.int) "bestSite") {r : Int32} {h' : zH} {s0 : Int32} {h : zH} (hf : f_X6_bestSite_b115 E s0 h = some (r, h')) : zW p l e R s m args below meth c D B0 4 (zEnd D B0 R below args s (zoI r) h') h 115 [] [.int s0] := by
  unfold f_X6_bestSite_b115 at hf
  refine zretW hf ?_
  exact zr_iret C0 (ty := .int) rfl rfl dX6_bestSite_115 rfl
def f_X6_bestSite_b88 (E : zE) (k32 : Nat → Int32 → Int32 → Int32 → zH → Option (Int32 × zH)) (p0 : Nat) (p1 : Int32) (p2 : Int32) (p3 : Int32) (h : zH) : Option (Int32 × zH) :=
  k32 p0 p1 p2 (p3 + 1) h
theorem w_X6_bestSite_b88 (C0 : zCx p l e R s m args below meth c D B0 4 "FranchiseLedgerModel" cX6_bestSite E 4 128 (Option.some Jvm.ClassFile.FieldType.int) "bestSite") {r : Int32} {h' : zH} {k32 : Nat → Int32 → Int32 → Int32 → zH → Option (Int32 × zH)} (hk32 : ∀ (p0 : Nat) (p1 : Int32) (p2 : Int32) (p3 : Int32) (h : zH), k32 p0 p1 p2 p3 h = some (r, h') → zW p l e R s m args below meth c D B0 4 (zEnd D B0 R below args s (zoI r) h') h 32 [(0, .ref p0), (1, .int p1), (2, .int p2), (3, .int p3)] []) {p0 : Nat} {p1 : Int32} {p2 : Int32} {p3 : Int32} {h : zH} (hf : f_X6_bestSite_b88 E k32 p0 p1 p2 p3 h = some (r, h')) : zW p l e R s m args below meth c D B0 4 (zEnd D B0 R below args s (zoI r) h') h 88 [(0, .ref p0), (1, .int p1), (2, .int p2), (3, .int p3)] [] := by
  unfold f_X6_bestSite_b88 at hf
  refine zr_iinc (lv' := [(3, .int (p3 + 1)), (0, .ref p0), (1, .int p1), (2, .int p2)]) C0 dX6_bestSite_88 3 rfl rfl (by decide) (by first | rfl | simp [zst1, zst2, zcat_rf]) ?_
  refine zr_goto C0 (tgt := 32) dX6_bestSite_91 (by decide) ?_
  refine zr_sub [1, 2, 3, 0] rfl ?_
  exact hk32 _ _ _ _ _ hf
def f_X6_bestSite_b86 (E : zE) (k32 : Nat → Int32 → Int32 → Int32 → zH → Option (Int32 × zH)) (p0 : Nat) (p1 : Int32) (p3 : Int32) (h : zH) : Option (Int32 × zH) :=
  f_X6_bestSite_b88 E k32 p0 p1 p3 p3 h
theorem w_X6_bestSite_b86 (C0 : zCx p l e R s m args below meth c D B0 4 "FranchiseLedgerModel" cX6_bestSite E 4 128 (Option.some Jvm.ClassFile.FieldType.int) "bestSite") {r : Int32} {h' : zH} {k32 : Nat → Int32 → Int32 → Int32 → zH → Option (Int32 × zH)} (hk32 : ∀ (p0 : Nat) (p1 : Int32) (p2 : Int32) (p3 : Int32) (h : zH), k32 p0 p1 p2 p3 h = some (r, h') → zW p l e R s m args below meth c D B0 4 (zEnd D B0 R below args s (zoI r) h') h 32 [(0, .ref p0), (1, .int p1), (2, .int p2), (3, .int p3)] []) {p0 : Nat} {p1 : Int32} {p3 : Int32} {h : zH} (hf : f_X6_bestSite_b86 E k32 p0 p1 p3 h = some (r, h')) : zW p l e R s m args below meth c D B0 4 (zEnd D B0 R below args s (zoI r) h') h 86 [(0, .ref p0), (1, .int p1), (3, .int p3)] [] := by
  unfold f_X6_bestSite_b86 at hf
  refine zr_iload_n C0 dX6_bestSite_86 rfl 2 rfl ?_
  refine zr_istore_n (i := 2) (lv' := [(2, .int p3), (0, .ref p0), (1, .int p1), (3, .int p3)]) C0 dX6_bestSite_87 rfl (by decide) (by first | rfl | simp [zst1, zst2, zcat_rf]) ?_
  refine zr_sub [1, 2, 0, 3] rfl ?_
  exact w_X6_bestSite_b88 C0 hk32 hf
def f_X6_bestSite_l32 (E : zE) : Nat → Nat → Int32 → Int32 → Int32 → zH → Option (Int32 × zH)
  | 0, _, _, _, _, _ => none
  | n + 1, p0, p1, p2, p3, h =>
    if (900 : Int32) ≤ p3 then (
      if p2 = (-1 : Int32) then (
        f_X6_bestSite_b115 E (-1 : Int32) h
      ) else (
        f_X6_bestSite_b115 E (((100 : Int32) * (p2 / (30 : Int32))) + (p2 - p2 / (30 : Int32) * (30 : Int32))) h
      )
    ) else (
      (gR h p0 1 0).bind fun x3 =>
      (dL h x3 ((250 : Int32) + p3)).bind fun x5 =>
      if x5 = (p1.toInt64) then (
        (cko h p0 1).bind fun _ =>
        bnd2 (f_X6_hasOutlet E p0 p3 h) fun x11 h9 =>
        if x11 = 0 then (
          if p2 = (-1 : Int32) then (
            f_X6_bestSite_b86 E (f_X6_bestSite_l32 E n) p0 p1 p3 h9
          ) else (
            (cko h9 p0 1).bind fun _ =>
            bnd2 (f_X6_nearestOutlet E p0 p3 (-1 : Int32) h9) fun x17 h15 =>
            (cko h15 p0 1).bind fun _ =>
            bnd2 (f_X6_nearestOutlet E p0 p2 (-1 : Int32) h15) fun x21 h19 =>
            if x17 ≤ x21 then (
              f_X6_bestSite_b88 E (f_X6_bestSite_l32 E n) p0 p1 p2 p3 h19
            ) else (
              f_X6_bestSite_b86 E (f_X6_bestSite_l32 E n) p0 p1 p3 h19
            )
          )
        ) else (
          f_X6_bestSite_b88 E (f_X6_bestSite_l32 E n) p0 p1 p2 p3 h9
        )
      ) else (
        f_X6_bestSite_b88 E (f_X6_bestSite_l32 E n) p0 p1 p2 p3 h
      )
    )
theorem w_X6_bestSite_l32 (C0 : zCx p l e R s m args below meth c D B0 4 "FranchiseLedgerModel" cX6_bestSite E 4 128 (Option.some Jvm.ClassFile.FieldType.int) "bestSite") {r : Int32} {h' : zH} : ∀ (n : Nat) (p0 : Nat) (p1 : Int32) (p2 : Int32) (p3 : Int32) (h : zH), f_X6_bestSite_l32 E n p0 p1 p2 p3 h = some (r, h') → zW p l e R s m args below meth c D B0 4 (zEnd D B0 R below args s (zoI r) h') h 32 [(0, .ref p0), (1, .int p1), (2, .int p2), (3, .int p3)] [] := by
  intro n
  induction n with
  | zero =>
    intro p0 p1 p2 p3 h hf
    unfold f_X6_bestSite_l32 at hf
    cases hf
  | succ n ih =>
    intro p0 p1 p2 p3 h hf
    unfold f_X6_bestSite_l32 at hf
    refine zr_iload_n C0 dX6_bestSite_32 rfl 3 rfl ?_
    refine zr_sipush C0 (v := 900) dX6_bestSite_33 (by decide) ?_
    refine zr_icmp_ge C0 (tgt := 94) dX6_bestSite_36 (by decide) (fun c1 => ?_) (fun c1 => ?_)
    · have hf := zif_t c1 hf
      refine zr_iload_n C0 dX6_bestSite_94 rfl 2 rfl ?_
      refine zr_iconst C0 (v := -1) dX6_bestSite_95 (by decide) ?_
      refine zr_icmp_ne C0 (tgt := 103) dX6_bestSite_96 (by decide) (fun c2 => ?_) (fun c2 => ?_)
      · have hf := zif_f c2 hf
        refine zr_bipush C0 (v := 100) dX6_bestSite_103 (by decide) ?_
        refine zr_iload_n C0 dX6_bestSite_105 rfl 2 rfl ?_
        refine zr_bipush C0 (v := 30) dX6_bestSite_106 (by decide) ?_
        refine zr_idiv C0 dX6_bestSite_108 (by decide) ?_
        refine zr_imul C0 dX6_bestSite_109 ?_
        refine zr_iload_n C0 dX6_bestSite_110 rfl 2 rfl ?_
        refine zr_bipush C0 (v := 30) dX6_bestSite_111 (by decide) ?_
        refine zr_irem C0 dX6_bestSite_113 (by decide) ?_
        refine zr_iadd C0 dX6_bestSite_114 ?_
        refine zr_sub [] rfl ?_
        exact w_X6_bestSite_b115 C0 hf
      · have hf := zif_t c2 hf
        refine zr_iconst C0 (v := -1) dX6_bestSite_99 (by decide) ?_
        refine zr_goto C0 (tgt := 115) dX6_bestSite_100 (by decide) ?_
        refine zr_sub [] rfl ?_
        exact w_X6_bestSite_b115 C0 hf
    · have hf := zif_f c1 hf
      refine zr_aload_n C0 dX6_bestSite_39 rfl 0 rfl ?_
      obtain ⟨x3, e4, hf⟩ := zbind hf
      refine zr_get C0 fl_X6_9_X6 dX6_bestSite_40 (zgR e4) ?_
      refine zr_sipush C0 (v := 250) dX6_bestSite_43 (by decide) ?_
      refine zr_iload_n C0 dX6_bestSite_46 rfl 3 rfl ?_
      refine zr_iadd C0 dX6_bestSite_47 ?_
      obtain ⟨x5, e6, hf⟩ := zbind hf
      refine zr_lald C0 dX6_bestSite_48 e6 ?_
      refine zr_iload_n C0 dX6_bestSite_49 rfl 1 rfl ?_
      refine zr_i2l C0 dX6_bestSite_50 ?_
      refine zr_lcmp C0 dX6_bestSite_51 ?_
      refine zr_if_ne C0 (tgt := 88) dX6_bestSite_52 (by decide) (fun c7 => ?_) (fun c7 => ?_)
      · have hf := zif_f (zl_ne.mp c7) hf
        exact w_X6_bestSite_b88 C0 ih hf
      · have hf := zif_t (zl_nen.mp c7) hf
        refine zr_aload_n C0 dX6_bestSite_55 rfl 0 rfl ?_
        refine zr_iload_n C0 dX6_bestSite_56 rfl 3 rfl ?_
        obtain ⟨_, e8, hf⟩ := zbind hf
        obtain ⟨x11, h9, e10, hf⟩ := zbind2 hf
        refine zr_callV_r C0 cv_X6_135_X6 rfl (zcko e8) (m_X6_hasOutlet C0.2.2.2.2.2.2.1 e10) (by decide) (by decide) rfl rfl (Nat.le_of_ble_eq_true rfl) dX6_bestSite_57 rfl ?_
        refine zr_if_eq C0 (tgt := 66) dX6_bestSite_60 (by decide) (fun c12 => ?_) (fun c12 => ?_)
        · have hf := zif_t c12 hf
          refine zr_iload_n C0 dX6_bestSite_66 rfl 2 rfl ?_
          refine zr_iconst C0 (v := -1) dX6_bestSite_67 (by decide) ?_
          refine zr_icmp_eq C0 (tgt := 86) dX6_bestSite_68 (by decide) (fun c13 => ?_) (fun c13 => ?_)
          · have hf := zif_t c13 hf
            refine zr_sub [0, 1, 3] rfl ?_
            exact w_X6_bestSite_b86 C0 ih hf
          · have hf := zif_f c13 hf
            refine zr_aload_n C0 dX6_bestSite_71 rfl 0 rfl ?_
            refine zr_iload_n C0 dX6_bestSite_72 rfl 3 rfl ?_
            refine zr_iconst C0 (v := -1) dX6_bestSite_73 (by decide) ?_
            obtain ⟨_, e14, hf⟩ := zbind hf
            obtain ⟨x17, h15, e16, hf⟩ := zbind2 hf
            refine zr_callV_r C0 cv_X6_152_X6 rfl (zcko e14) (m_X6_nearestOutlet C0.2.2.2.2.2.2.1 e16) (by decide) (by decide) rfl rfl (Nat.le_of_ble_eq_true rfl) dX6_bestSite_74 rfl ?_
            refine zr_aload_n C0 dX6_bestSite_77 rfl 0 rfl ?_
            refine zr_iload_n C0 dX6_bestSite_78 rfl 2 rfl ?_
            refine zr_iconst C0 (v := -1) dX6_bestSite_79 (by decide) ?_
            obtain ⟨_, e18, hf⟩ := zbind hf
            obtain ⟨x21, h19, e20, hf⟩ := zbind2 hf
            refine zr_callV_r C0 cv_X6_152_X6 rfl (zcko e18) (m_X6_nearestOutlet C0.2.2.2.2.2.2.1 e20) (by decide) (by decide) rfl rfl (Nat.le_of_ble_eq_true rfl) dX6_bestSite_80 rfl ?_
            refine zr_icmp_le C0 (tgt := 88) dX6_bestSite_83 (by decide) (fun c22 => ?_) (fun c22 => ?_)
            · have hf := zif_t c22 hf
              exact w_X6_bestSite_b88 C0 ih hf
            · have hf := zif_f c22 hf
              refine zr_sub [0, 1, 3] rfl ?_
              exact w_X6_bestSite_b86 C0 ih hf
        · have hf := zif_f c12 hf
          refine zr_goto C0 (tgt := 88) dX6_bestSite_63 (by decide) ?_
          exact w_X6_bestSite_b88 C0 ih hf
def f_X6_bestSite_b19 (E : zE) (p0 : Nat) (p1 : Int32) (s0 : Nat) (s1 : Int32) (h : zH) : Option (Int32 × zH) :=
  (cko h s0 1).bind fun _ =>
  bnd2 (f_X6_throwsIf E s0 s1 (1 : Int32) h) fun x4 h2 =>
  if x4 = 0 then (
    f_X6_bestSite_l32 E E.1 p0 p1 (-1 : Int32) (0 : Int32) h2
  ) else (
    some ((0 : Int32), h2)
  )
theorem w_X6_bestSite_b19 (C0 : zCx p l e R s m args below meth c D B0 4 "FranchiseLedgerModel" cX6_bestSite E 4 128 (Option.some Jvm.ClassFile.FieldType.int) "bestSite") {r : Int32} {h' : zH} {p0 : Nat} {p1 : Int32} {s0 : Nat} {s1 : Int32} {h : zH} (hf : f_X6_bestSite_b19 E p0 p1 s0 s1 h = some (r, h')) : zW p l e R s m args below meth c D B0 4 (zEnd D B0 R below args s (zoI r) h') h 19 [(0, .ref p0), (1, .int p1)] [.int s1, .ref s0] := by
  unfold f_X6_bestSite_b19 at hf
  refine zr_iconst C0 (v := 1) dX6_bestSite_19 (by decide) ?_
  obtain ⟨_, e1, hf⟩ := zbind hf
  obtain ⟨x4, h2, e3, hf⟩ := zbind2 hf
  refine zr_callV_r C0 cv_X6_81_X6 rfl (zcko e1) (m_X6_throwsIf C0.2.2.2.2.2.2.1 e3) (by decide) (by decide) rfl rfl (Nat.le_of_ble_eq_true rfl) dX6_bestSite_20 rfl ?_
  refine zr_if_eq C0 (tgt := 28) dX6_bestSite_23 (by decide) (fun c5 => ?_) (fun c5 => ?_)
  · have hf := zif_t c5 hf
    refine zr_iconst C0 (v := -1) dX6_bestSite_28 (by decide) ?_
    refine zr_istore_n (i := 2) (lv' := [(2, .int (-1 : Int32)), (0, .ref p0), (1, .int p1)]) C0 dX6_bestSite_29 rfl (by decide) (by first | rfl | simp [zst1, zst2, zcat_rf]) ?_
    refine zr_iconst C0 (v := 0) dX6_bestSite_30 (by decide) ?_
    refine zr_istore_n (i := 3) (lv' := [(3, .int (0 : Int32)), (2, .int (-1 : Int32)), (0, .ref p0), (1, .int p1)]) C0 dX6_bestSite_31 rfl (by decide) (by first | rfl | simp [zst1, zst2, zcat_rf]) ?_
    refine zr_sub [2, 3, 1, 0] rfl ?_
    exact w_X6_bestSite_l32 C0 _ _ _ _ _ _ hf
  · have hf := zif_f c5 hf
    refine zr_iconst C0 (v := 0) dX6_bestSite_26 (by decide) ?_
    refine zretW hf ?_
    exact zr_iret C0 (ty := .int) rfl rfl dX6_bestSite_27 rfl
def f_X6_bestSite_b0 (E : zE) (p0 : Nat) (p1 : Int32) (h : zH) : Option (Int32 × zH) :=
  (pF h p0 1 2 (.int (0 : Int32))).bind fun h1 =>
  (cko h1 p0 1).bind fun _ =>
  bnd2 (f_X6_isFranchisee E p0 p1 h1) fun x6 h4 =>
  if x6 = 0 then (
    f_X6_bestSite_b19 E p0 p1 p0 (1 : Int32) h4
  ) else (
    f_X6_bestSite_b19 E p0 p1 p0 (0 : Int32) h4
  )
theorem w_X6_bestSite_b0 (C0 : zCx p l e R s m args below meth c D B0 4 "FranchiseLedgerModel" cX6_bestSite E 4 128 (Option.some Jvm.ClassFile.FieldType.int) "bestSite") {r : Int32} {h' : zH} {p0 : Nat} {p1 : Int32} {h : zH} (hf : f_X6_bestSite_b0 E p0 p1 h = some (r, h')) : zW p l e R s m args below meth c D B0 4 (zEnd D B0 R below args s (zoI r) h') h 0 [(0, .ref p0), (1, .int p1)] [] := by
  unfold f_X6_bestSite_b0 at hf
  refine zr_aload_n C0 dX6_bestSite_0 rfl 0 rfl ?_
  refine zr_iconst C0 (v := 0) dX6_bestSite_1 (by decide) ?_
  obtain ⟨h1, e2, hf⟩ := zbind hf
  refine zr_put C0 pl_X6_50_X6 dX6_bestSite_2 (fun h => by cases h) rfl rfl e2 ?_
  refine zr_aload_n C0 dX6_bestSite_5 rfl 0 rfl ?_
  refine zr_aload_n C0 dX6_bestSite_6 rfl 0 rfl ?_
  refine zr_iload_n C0 dX6_bestSite_7 rfl 1 rfl ?_
  obtain ⟨_, e3, hf⟩ := zbind hf
  obtain ⟨x6, h4, e5, hf⟩ := zbind2 hf
  refine zr_callV_r C0 cv_X6_85_X6 rfl (zcko e3) (m_X6_isFranchisee C0.2.2.2.2.2.2.1 e5) (by decide) (by decide) rfl rfl (Nat.le_of_ble_eq_true rfl) dX6_bestSite_8 rfl ?_
  refine zr_if_ne C0 (tgt := 18) dX6_bestSite_11 (by decide) (fun c7 => ?_) (fun c7 => ?_)
  · have hf := zif_f c7 hf
    refine zr_iconst C0 (v := 0) dX6_bestSite_18 (by decide) ?_
    exact w_X6_bestSite_b19 C0 hf
  · have hf := zif_t c7 hf
    refine zr_iconst C0 (v := 1) dX6_bestSite_14 (by decide) ?_
    refine zr_goto C0 (tgt := 19) dX6_bestSite_15 (by decide) ?_
    exact w_X6_bestSite_b19 C0 hf
def f_X6_bestSite (E : zE) (p0 : Nat) (p1 : Int32) (h : zH) : Option (Int32 × zH) := f_X6_bestSite_b0 E p0 p1 h
theorem m_X6_bestSite {l : Launch} (hst : l.stackTraces = false) {D : zD} {B0 : Nat} {E : zE} {p0 : Nat} {p1 : Int32} {h h' : zH} {r : Int32} (hf : f_X6_bestSite E p0 p1 h = some (r, h')) : zMet l yX6_bestSite (ws_ yX6_bestSite cX6_bestSite 4 (Option.some Jvm.ClassFile.FieldType.int)) 4 128 D B0 E [.ref p0, .int p1] h (zoI r) h' := by
  unfold f_X6_bestSite at hf
  refine zMet_of hst (by decide +kernel) rfl rfl (Nat.le_of_ble_eq_true rfl) (fun p e R s m below meth c C0 hno => ?_)
  show zW _ _ _ _ _ _ _ _ _ _ _ _ _ _ _ _ [(0, .ref p0), (1, .int p1)] []
  exact w_X6_bestSite_b0 C0 hf
def f_X6_coverage_b51 (E : zE) (h : zH) : Option (Int32 × zH) :=
  some ((0 : Int32), h)
theorem w_X6_coverage_b51 (C0 : zCx p l e R s m args below meth c D B0 5 "FranchiseLedgerModel" cX6_coverage E 4 128 (Option.some Jvm.ClassFile.FieldType.int) "coverage") {r : Int32} {h' : zH} {h : zH} (hf : f_X6_coverage_b51 E  h = some (r, h')) : zW p l e R s m args below meth c D B0 5 (zEnd D B0 R below args s (zoI r) h') h 51 [] [] := by
  unfold f_X6_coverage_b51 at hf
  refine zr_iconst C0 (v := 0) dX6_coverage_51 (by decide) ?_
  refine zretW hf ?_
  exact zr_iret C0 (ty := .int) rfl rfl dX6_coverage_52 rfl
def f_X6_coverage_b108 (E : zE) (k58 : Nat → Int32 → Int32 → Int32 → Int32 → zH → Option (Int32 × zH)) (p0 : Nat) (p1 : Int32) (p2 : Int32) (p3 : Int32) (p4 : Int32) (h : zH) : Option (Int32 × zH) :=
  k58 p0 p1 p2 p3 (p4 + 1) h
theorem w_X6_coverage_b108 (C0 : zCx p l e R s m args below meth c D B0 5 "FranchiseLedgerModel" cX6_coverage E 4 128 (Option.some Jvm.ClassFile.FieldType.int) "coverage") {r : Int32} {h' : zH} {k58 : Nat → Int32 → Int32 → Int32 → Int32 → zH → Option (Int32 × zH)} (hk58 : ∀ (p0 : Nat) (p1 : Int32) (p2 : Int32) (p3 : Int32) (p4 : Int32) (h : zH), k58 p0 p1 p2 p3 p4 h = some (r, h') → zW p l e R s m args below meth c D B0 5 (zEnd D B0 R below args s (zoI r) h') h 58 [(0, .ref p0), (1, .int p1), (2, .int p2), (3, .int p3), (4, .int p4)] []) {p0 : Nat} {p1 : Int32} {p2 : Int32} {p3 : Int32} {p4 : Int32} {h : zH} (hf : f_X6_coverage_b108 E k58 p0 p1 p2 p3 p4 h = some (r, h')) : zW p l e R s m args below meth c D B0 5 (zEnd D B0 R below args s (zoI r) h') h 108 [(0, .ref p0), (1, .int p1), (2, .int p2), (3, .int p3), (4, .int p4)] [] := by
  unfold f_X6_coverage_b108 at hf
  refine zr_iinc (lv' := [(4, .int (p4 + 1)), (0, .ref p0), (1, .int p1), (2, .int p2), (3, .int p3)]) C0 dX6_coverage_108 4 rfl rfl (by decide) (by first | rfl | simp [zst1, zst2, zcat_rf]) ?_
  refine zr_goto C0 (tgt := 58) dX6_coverage_111 (by decide) ?_
  refine zr_sub [1, 2, 3, 4, 0] rfl ?_
  exact hk58 _ _ _ _ _ _ hf
def f_X6_coverage_b106 (E : zE) (k58 : Nat → Int32 → Int32 → Int32 → Int32 → zH → Option (Int32 × zH)) (p0 : Nat) (p1 : Int32) (p2 : Int32) (p4 : Int32) (s0 : Int32) (s1 : Int32) (h : zH) : Option (Int32 × zH) :=
  f_X6_coverage_b108 E k58 p0 p1 p2 (s0 + s1) p4 h
theorem w_X6_coverage_b106 (C0 : zCx p l e R s m args below meth c D B0 5 "FranchiseLedgerModel" cX6_coverage E 4 128 (Option.some Jvm.ClassFile.FieldType.int) "coverage") {r : Int32} {h' : zH} {k58 : Nat → Int32 → Int32 → Int32 → Int32 → zH → Option (Int32 × zH)} (hk58 : ∀ (p0 : Nat) (p1 : Int32) (p2 : Int32) (p3 : Int32) (p4 : Int32) (h : zH), k58 p0 p1 p2 p3 p4 h = some (r, h') → zW p l e R s m args below meth c D B0 5 (zEnd D B0 R below args s (zoI r) h') h 58 [(0, .ref p0), (1, .int p1), (2, .int p2), (3, .int p3), (4, .int p4)] []) {p0 : Nat} {p1 : Int32} {p2 : Int32} {p4 : Int32} {s0 : Int32} {s1 : Int32} {h : zH} (hf : f_X6_coverage_b106 E k58 p0 p1 p2 p4 s0 s1 h = some (r, h')) : zW p l e R s m args below meth c D B0 5 (zEnd D B0 R below args s (zoI r) h') h 106 [(0, .ref p0), (1, .int p1), (2, .int p2), (4, .int p4)] [.int s1, .int s0] := by
  unfold f_X6_coverage_b106 at hf
  refine zr_iadd C0 dX6_coverage_106 ?_
  refine zr_istore_n (i := 3) (lv' := [(3, .int (s0 + s1)), (0, .ref p0), (1, .int p1), (2, .int p2), (4, .int p4)]) C0 dX6_coverage_107 rfl (by decide) (by first | rfl | simp [zst1, zst2, zcat_rf]) ?_
  refine zr_sub [1, 2, 3, 0, 4] rfl ?_
  exact w_X6_coverage_b108 C0 hk58 hf
def f_X6_coverage_l58 (E : zE) : Nat → Nat → Int32 → Int32 → Int32 → Int32 → zH → Option (Int32 × zH)
  | 0, _, _, _, _, _, _ => none
  | n + 1, p0, p1, p2, p3, p4, h =>
    if (900 : Int32) ≤ p4 then (
      some (p3, h)
    ) else (
      (gR h p0 1 0).bind fun x2 =>
      (dL h x2 ((250 : Int32) + p4)).bind fun x4 =>
      if x4 = (p1.toInt64) then (
        (cko h p0 1).bind fun _ =>
        bnd2 (f_X6_nearestOutlet E p0 p4 p1 h) fun x10 h8 =>
        bnd2 (f_X6_inRange E (x10.toInt64) (0 : Int64) (p2.toInt64) h8) fun x13 h11 =>
        if x13 = 0 then (
          f_X6_coverage_b106 E (f_X6_coverage_l58 E n) p0 p1 p2 p4 p3 (0 : Int32) h11
        ) else (
          f_X6_coverage_b106 E (f_X6_coverage_l58 E n) p0 p1 p2 p4 p3 (1 : Int32) h11
        )
      ) else (
        f_X6_coverage_b108 E (f_X6_coverage_l58 E n) p0 p1 p2 p3 p4 h
      )
    )
theorem w_X6_coverage_l58 (C0 : zCx p l e R s m args below meth c D B0 5 "FranchiseLedgerModel" cX6_coverage E 4 128 (Option.some Jvm.ClassFile.FieldType.int) "coverage") {r : Int32} {h' : zH} : ∀ (n : Nat) (p0 : Nat) (p1 : Int32) (p2 : Int32) (p3 : Int32) (p4 : Int32) (h : zH), f_X6_coverage_l58 E n p0 p1 p2 p3 p4 h = some (r, h') → zW p l e R s m args below meth c D B0 5 (zEnd D B0 R below args s (zoI r) h') h 58 [(0, .ref p0), (1, .int p1), (2, .int p2), (3, .int p3), (4, .int p4)] [] := by
  intro n
  induction n with
  | zero =>
    intro p0 p1 p2 p3 p4 h hf
    unfold f_X6_coverage_l58 at hf
    cases hf
  | succ n ih =>
    intro p0 p1 p2 p3 p4 h hf
    unfold f_X6_coverage_l58 at hf
    refine zr_iload C0 dX6_coverage_58 4 rfl ?_
    refine zr_sipush C0 (v := 900) dX6_coverage_60 (by decide) ?_
    refine zr_icmp_ge C0 (tgt := 114) dX6_coverage_63 (by decide) (fun c1 => ?_) (fun c1 => ?_)
    · have hf := zif_t c1 hf
      refine zr_iload_n C0 dX6_coverage_114 rfl 3 rfl ?_
      refine zretW hf ?_
      exact zr_iret C0 (ty := .int) rfl rfl dX6_coverage_115 rfl
    · have hf := zif_f c1 hf
      refine zr_aload_n C0 dX6_coverage_66 rfl 0 rfl ?_
      obtain ⟨x2, e3, hf⟩ := zbind hf
      refine zr_get C0 fl_X6_9_X6 dX6_coverage_67 (zgR e3) ?_
      refine zr_sipush C0 (v := 250) dX6_coverage_70 (by decide) ?_
      refine zr_iload C0 dX6_coverage_73 4 rfl ?_
      refine zr_iadd C0 dX6_coverage_75 ?_
      obtain ⟨x4, e5, hf⟩ := zbind hf
      refine zr_lald C0 dX6_coverage_76 e5 ?_
      refine zr_iload_n C0 dX6_coverage_77 rfl 1 rfl ?_
      refine zr_i2l C0 dX6_coverage_78 ?_
      refine zr_lcmp C0 dX6_coverage_79 ?_
      refine zr_if_ne C0 (tgt := 108) dX6_coverage_80 (by decide) (fun c6 => ?_) (fun c6 => ?_)
      · have hf := zif_f (zl_ne.mp c6) hf
        exact w_X6_coverage_b108 C0 ih hf
      · have hf := zif_t (zl_nen.mp c6) hf
        refine zr_iload_n C0 dX6_coverage_83 rfl 3 rfl ?_
        refine zr_aload_n C0 dX6_coverage_84 rfl 0 rfl ?_
        refine zr_iload C0 dX6_coverage_85 4 rfl ?_
        refine zr_iload_n C0 dX6_coverage_87 rfl 1 rfl ?_
        obtain ⟨_, e7, hf⟩ := zbind hf
        obtain ⟨x10, h8, e9, hf⟩ := zbind2 hf
        refine zr_callV_r C0 cv_X6_152_X6 rfl (zcko e7) (m_X6_nearestOutlet C0.2.2.2.2.2.2.1 e9) (by decide) (by decide) rfl rfl (Nat.le_of_ble_eq_true rfl) dX6_coverage_88 rfl ?_
        refine zr_i2l C0 dX6_coverage_91 ?_
        refine zr_lconst C0 (v := 0) dX6_coverage_92 (by decide) ?_
        refine zr_iload_n C0 dX6_coverage_93 rfl 2 rfl ?_
        refine zr_i2l C0 dX6_coverage_94 ?_
        obtain ⟨x13, h11, e12, hf⟩ := zbind2 hf
        refine zr_callS_r C0 cv_X6_53 (m_X6_inRange C0.2.2.2.2.2.2.1 e12) (by decide) (by decide) rfl rfl (Nat.le_of_ble_eq_true rfl) dX6_coverage_95 rfl ?_
        refine zr_if_eq C0 (tgt := 105) dX6_coverage_98 (by decide) (fun c14 => ?_) (fun c14 => ?_)
        · have hf := zif_t c14 hf
          refine zr_iconst C0 (v := 0) dX6_coverage_105 (by decide) ?_
          refine zr_sub [0, 1, 2, 4] rfl ?_
          exact w_X6_coverage_b106 C0 ih hf
        · have hf := zif_f c14 hf
          refine zr_iconst C0 (v := 1) dX6_coverage_101 (by decide) ?_
          refine zr_goto C0 (tgt := 106) dX6_coverage_102 (by decide) ?_
          refine zr_sub [0, 1, 2, 4] rfl ?_
          exact w_X6_coverage_b106 C0 ih hf
def f_X6_coverage_b44 (E : zE) (p0 : Nat) (p1 : Int32) (p2 : Int32) (s0 : Nat) (s1 : Int32) (h : zH) : Option (Int32 × zH) :=
  (cko h s0 1).bind fun _ =>
  bnd2 (f_X6_throwsIf E s0 s1 (2 : Int32) h) fun x4 h2 =>
  if x4 = 0 then (
    f_X6_coverage_l58 E E.1 p0 p1 p2 (0 : Int32) (0 : Int32) h2
  ) else (
    f_X6_coverage_b51 E  h2
  )
theorem w_X6_coverage_b44 (C0 : zCx p l e R s m args below meth c D B0 5 "FranchiseLedgerModel" cX6_coverage E 4 128 (Option.some Jvm.ClassFile.FieldType.int) "coverage") {r : Int32} {h' : zH} {p0 : Nat} {p1 : Int32} {p2 : Int32} {s0 : Nat} {s1 : Int32} {h : zH} (hf : f_X6_coverage_b44 E p0 p1 p2 s0 s1 h = some (r, h')) : zW p l e R s m args below meth c D B0 5 (zEnd D B0 R below args s (zoI r) h') h 44 [(0, .ref p0), (1, .int p1), (2, .int p2)] [.int s1, .ref s0] := by
  unfold f_X6_coverage_b44 at hf
  refine zr_iconst C0 (v := 2) dX6_coverage_44 (by decide) ?_
  obtain ⟨_, e1, hf⟩ := zbind hf
  obtain ⟨x4, h2, e3, hf⟩ := zbind2 hf
  refine zr_callV_r C0 cv_X6_81_X6 rfl (zcko e1) (m_X6_throwsIf C0.2.2.2.2.2.2.1 e3) (by decide) (by decide) rfl rfl (Nat.le_of_ble_eq_true rfl) dX6_coverage_45 rfl ?_
  refine zr_if_eq C0 (tgt := 53) dX6_coverage_48 (by decide) (fun c5 => ?_) (fun c5 => ?_)
  · have hf := zif_t c5 hf
    refine zr_iconst C0 (v := 0) dX6_coverage_53 (by decide) ?_
    refine zr_istore_n (i := 3) (lv' := [(3, .int (0 : Int32)), (0, .ref p0), (1, .int p1), (2, .int p2)]) C0 dX6_coverage_54 rfl (by decide) (by first | rfl | simp [zst1, zst2, zcat_rf]) ?_
    refine zr_iconst C0 (v := 0) dX6_coverage_55 (by decide) ?_
    refine zr_istore (i := 4) (lv' := [(4, .int (0 : Int32)), (3, .int (0 : Int32)), (0, .ref p0), (1, .int p1), (2, .int p2)]) C0 dX6_coverage_56 (by decide) (by first | rfl | simp [zst1, zst2, zcat_rf]) ?_
    refine zr_sub [2, 3, 4, 1, 0] rfl ?_
    exact w_X6_coverage_l58 C0 _ _ _ _ _ _ _ hf
  · have hf := zif_f c5 hf
    refine zr_sub [] rfl ?_
    exact w_X6_coverage_b51 C0 hf
def f_X6_coverage_b19 (E : zE) (p0 : Nat) (p1 : Int32) (p2 : Int32) (s0 : Nat) (s1 : Int32) (h : zH) : Option (Int32 × zH) :=
  (cko h s0 1).bind fun _ =>
  bnd2 (f_X6_throwsIf E s0 s1 (1 : Int32) h) fun x4 h2 =>
  if x4 = 0 then (
    bnd2 (f_X6_inRange E (p2.toInt64) (0 : Int64) (58 : Int64) h2) fun x8 h6 =>
    if x8 = 0 then (
      f_X6_coverage_b44 E p0 p1 p2 p0 (1 : Int32) h6
    ) else (
      f_X6_coverage_b44 E p0 p1 p2 p0 (0 : Int32) h6
    )
  ) else (
    f_X6_coverage_b51 E  h2
  )
theorem w_X6_coverage_b19 (C0 : zCx p l e R s m args below meth c D B0 5 "FranchiseLedgerModel" cX6_coverage E 4 128 (Option.some Jvm.ClassFile.FieldType.int) "coverage") {r : Int32} {h' : zH} {p0 : Nat} {p1 : Int32} {p2 : Int32} {s0 : Nat} {s1 : Int32} {h : zH} (hf : f_X6_coverage_b19 E p0 p1 p2 s0 s1 h = some (r, h')) : zW p l e R s m args below meth c D B0 5 (zEnd D B0 R below args s (zoI r) h') h 19 [(0, .ref p0), (1, .int p1), (2, .int p2)] [.int s1, .ref s0] := by
  unfold f_X6_coverage_b19 at hf
  refine zr_iconst C0 (v := 1) dX6_coverage_19 (by decide) ?_
  obtain ⟨_, e1, hf⟩ := zbind hf
  obtain ⟨x4, h2, e3, hf⟩ := zbind2 hf
  refine zr_callV_r C0 cv_X6_81_X6 rfl (zcko e1) (m_X6_throwsIf C0.2.2.2.2.2.2.1 e3) (by decide) (by decide) rfl rfl (Nat.le_of_ble_eq_true rfl) dX6_coverage_20 rfl ?_
  refine zr_if_ne C0 (tgt := 51) dX6_coverage_23 (by decide) (fun c5 => ?_) (fun c5 => ?_)
  · have hf := zif_f c5 hf
    refine zr_sub [] rfl ?_
    exact w_X6_coverage_b51 C0 hf
  · have hf := zif_t c5 hf
    refine zr_aload_n C0 dX6_coverage_26 rfl 0 rfl ?_
    refine zr_iload_n C0 dX6_coverage_27 rfl 2 rfl ?_
    refine zr_i2l C0 dX6_coverage_28 ?_
    refine zr_lconst C0 (v := 0) dX6_coverage_29 (by decide) ?_
    refine zr_ldc2 C0 (v := 58) q2774 dX6_coverage_30 ?_
    obtain ⟨x8, h6, e7, hf⟩ := zbind2 hf
    refine zr_callS_r C0 cv_X6_53 (m_X6_inRange C0.2.2.2.2.2.2.1 e7) (by decide) (by decide) rfl rfl (Nat.le_of_ble_eq_true rfl) dX6_coverage_33 rfl ?_
    refine zr_if_ne C0 (tgt := 43) dX6_coverage_36 (by decide) (fun c9 => ?_) (fun c9 => ?_)
    · have hf := zif_f c9 hf
      refine zr_iconst C0 (v := 0) dX6_coverage_43 (by decide) ?_
      exact w_X6_coverage_b44 C0 hf
    · have hf := zif_t c9 hf
      refine zr_iconst C0 (v := 1) dX6_coverage_39 (by decide) ?_
      refine zr_goto C0 (tgt := 44) dX6_coverage_40 (by decide) ?_
      exact w_X6_coverage_b44 C0 hf
def f_X6_coverage_b0 (E : zE) (p0 : Nat) (p1 : Int32) (p2 : Int32) (h : zH) : Option (Int32 × zH) :=
  (pF h p0 1 2 (.int (0 : Int32))).bind fun h1 =>
  (cko h1 p0 1).bind fun _ =>
  bnd2 (f_X6_isFranchisee E p0 p1 h1) fun x6 h4 =>
  if x6 = 0 then (
    f_X6_coverage_b19 E p0 p1 p2 p0 (1 : Int32) h4
  ) else (
    f_X6_coverage_b19 E p0 p1 p2 p0 (0 : Int32) h4
  )
theorem w_X6_coverage_b0 (C0 : zCx p l e R s m args below meth c D B0 5 "FranchiseLedgerModel" cX6_coverage E 4 128 (Option.some Jvm.ClassFile.FieldType.int) "coverage") {r : Int32} {h' : zH} {p0 : Nat} {p1 : Int32} {p2 : Int32} {h : zH} (hf : f_X6_coverage_b0 E p0 p1 p2 h = some (r, h')) : zW p l e R s m args below meth c D B0 5 (zEnd D B0 R below args s (zoI r) h') h 0 [(0, .ref p0), (1, .int p1), (2, .int p2)] [] := by
  unfold f_X6_coverage_b0 at hf
  refine zr_aload_n C0 dX6_coverage_0 rfl 0 rfl ?_
  refine zr_iconst C0 (v := 0) dX6_coverage_1 (by decide) ?_
  obtain ⟨h1, e2, hf⟩ := zbind hf
  refine zr_put C0 pl_X6_50_X6 dX6_coverage_2 (fun h => by cases h) rfl rfl e2 ?_
  refine zr_aload_n C0 dX6_coverage_5 rfl 0 rfl ?_
  refine zr_aload_n C0 dX6_coverage_6 rfl 0 rfl ?_
  refine zr_iload_n C0 dX6_coverage_7 rfl 1 rfl ?_
  obtain ⟨_, e3, hf⟩ := zbind hf
  obtain ⟨x6, h4, e5, hf⟩ := zbind2 hf
  refine zr_callV_r C0 cv_X6_85_X6 rfl (zcko e3) (m_X6_isFranchisee C0.2.2.2.2.2.2.1 e5) (by decide) (by decide) rfl rfl (Nat.le_of_ble_eq_true rfl) dX6_coverage_8 rfl ?_
  refine zr_if_ne C0 (tgt := 18) dX6_coverage_11 (by decide) (fun c7 => ?_) (fun c7 => ?_)
  · have hf := zif_f c7 hf
    refine zr_iconst C0 (v := 0) dX6_coverage_18 (by decide) ?_
    exact w_X6_coverage_b19 C0 hf
  · have hf := zif_t c7 hf
    refine zr_iconst C0 (v := 1) dX6_coverage_14 (by decide) ?_
    refine zr_goto C0 (tgt := 19) dX6_coverage_15 (by decide) ?_
    exact w_X6_coverage_b19 C0 hf
def f_X6_coverage (E : zE) (p0 : Nat) (p1 : Int32) (p2 : Int32) (h : zH) : Option (Int32 × zH) := f_X6_coverage_b0 E p0 p1 p2 h
theorem m_X6_coverage {l : Launch} (hst : l.stackTraces = false) {D : zD} {B0 : Nat} {E : zE} {p0 : Nat} {p1 : Int32} {p2 : Int32} {h h' : zH} {r : Int32} (hf : f_X6_coverage E p0 p1 p2 h = some (r, h')) : zMet l yX6_coverage (ws_ yX6_coverage cX6_coverage 5 (Option.some Jvm.ClassFile.FieldType.int)) 4 128 D B0 E [.ref p0, .int p1, .int p2] h (zoI r) h' := by
  unfold f_X6_coverage at hf
  refine zMet_of hst (by decide +kernel) rfl rfl (Nat.le_of_ble_eq_true rfl) (fun p e R s m below meth c C0 hno => ?_)
  show zW _ _ _ _ _ _ _ _ _ _ _ _ _ _ _ _ [(0, .ref p0), (1, .int p1), (2, .int p2)] []
  exact w_X6_coverage_b0 C0 hf
def f_X6_rivalCells_b52 (E : zE) (h : zH) : Option (Int32 × zH) :=
  some ((0 : Int32), h)
theorem w_X6_rivalCells_b52 (C0 : zCx p l e R s m args below meth c D B0 7 "FranchiseLedgerModel" cX6_rivalCells E 4 128 (Option.some Jvm.ClassFile.FieldType.int) "rivalCells") {r : Int32} {h' : zH} {h : zH} (hf : f_X6_rivalCells_b52 E  h = some (r, h')) : zW p l e R s m args below meth c D B0 7 (zEnd D B0 R below args s (zoI r) h') h 52 [] [] := by
  unfold f_X6_rivalCells_b52 at hf
  refine zr_iconst C0 (v := 0) dX6_rivalCells_52 (by decide) ?_
  refine zretW hf ?_
  exact zr_iret C0 (ty := .int) rfl rfl dX6_rivalCells_53 rfl
def f_X6_rivalCells_b132 (E : zE) (k59 : Nat → Int32 → Int32 → Int32 → Int32 → zH → Option (Int32 × zH)) (p0 : Nat) (p1 : Int32) (p2 : Int32) (p3 : Int32) (p4 : Int32) (h : zH) : Option (Int32 × zH) :=
  k59 p0 p1 p2 p3 (p4 + 1) h
theorem w_X6_rivalCells_b132 (C0 : zCx p l e R s m args below meth c D B0 7 "FranchiseLedgerModel" cX6_rivalCells E 4 128 (Option.some Jvm.ClassFile.FieldType.int) "rivalCells") {r : Int32} {h' : zH} {k59 : Nat → Int32 → Int32 → Int32 → Int32 → zH → Option (Int32 × zH)} (hk59 : ∀ (p0 : Nat) (p1 : Int32) (p2 : Int32) (p3 : Int32) (p4 : Int32) (h : zH), k59 p0 p1 p2 p3 p4 h = some (r, h') → zW p l e R s m args below meth c D B0 7 (zEnd D B0 R below args s (zoI r) h') h 59 [(0, .ref p0), (1, .int p1), (2, .int p2), (3, .int p3), (4, .int p4)] []) {p0 : Nat} {p1 : Int32} {p2 : Int32} {p3 : Int32} {p4 : Int32} {h : zH} (hf : f_X6_rivalCells_b132 E k59 p0 p1 p2 p3 p4 h = some (r, h')) : zW p l e R s m args below meth c D B0 7 (zEnd D B0 R below args s (zoI r) h') h 132 [(0, .ref p0), (1, .int p1), (2, .int p2), (3, .int p3), (4, .int p4)] [] := by
  unfold f_X6_rivalCells_b132 at hf
  refine zr_iinc (lv' := [(4, .int (p4 + 1)), (0, .ref p0), (1, .int p1), (2, .int p2), (3, .int p3)]) C0 dX6_rivalCells_132 4 rfl rfl (by decide) (by first | rfl | simp [zst1, zst2, zcat_rf]) ?_
  refine zr_goto C0 (tgt := 59) dX6_rivalCells_135 (by decide) ?_
  refine zr_sub [1, 2, 3, 4, 0] rfl ?_
  exact hk59 _ _ _ _ _ _ hf
def f_X6_rivalCells_b130 (E : zE) (k59 : Nat → Int32 → Int32 → Int32 → Int32 → zH → Option (Int32 × zH)) (p0 : Nat) (p1 : Int32) (p2 : Int32) (p4 : Int32) (s0 : Int32) (s1 : Int32) (h : zH) : Option (Int32 × zH) :=
  f_X6_rivalCells_b132 E k59 p0 p1 p2 (s0 + s1) p4 h
theorem w_X6_rivalCells_b130 (C0 : zCx p l e R s m args below meth c D B0 7 "FranchiseLedgerModel" cX6_rivalCells E 4 128 (Option.some Jvm.ClassFile.FieldType.int) "rivalCells") {r : Int32} {h' : zH} {k59 : Nat → Int32 → Int32 → Int32 → Int32 → zH → Option (Int32 × zH)} (hk59 : ∀ (p0 : Nat) (p1 : Int32) (p2 : Int32) (p3 : Int32) (p4 : Int32) (h : zH), k59 p0 p1 p2 p3 p4 h = some (r, h') → zW p l e R s m args below meth c D B0 7 (zEnd D B0 R below args s (zoI r) h') h 59 [(0, .ref p0), (1, .int p1), (2, .int p2), (3, .int p3), (4, .int p4)] []) {p0 : Nat} {p1 : Int32} {p2 : Int32} {p4 : Int32} {s0 : Int32} {s1 : Int32} {h : zH} (hf : f_X6_rivalCells_b130 E k59 p0 p1 p2 p4 s0 s1 h = some (r, h')) : zW p l e R s m args below meth c D B0 7 (zEnd D B0 R below args s (zoI r) h') h 130 [(0, .ref p0), (1, .int p1), (2, .int p2), (4, .int p4)] [.int s1, .int s0] := by
  unfold f_X6_rivalCells_b130 at hf
  refine zr_iadd C0 dX6_rivalCells_130 ?_
  refine zr_istore_n (i := 3) (lv' := [(3, .int (s0 + s1)), (0, .ref p0), (1, .int p1), (2, .int p2), (4, .int p4)]) C0 dX6_rivalCells_131 rfl (by decide) (by first | rfl | simp [zst1, zst2, zcat_rf]) ?_
  refine zr_sub [1, 2, 3, 0, 4] rfl ?_
  exact w_X6_rivalCells_b132 C0 hk59 hf
def f_X6_rivalCells_b129 (E : zE) (k59 : Nat → Int32 → Int32 → Int32 → Int32 → zH → Option (Int32 × zH)) (p0 : Nat) (p1 : Int32) (p2 : Int32) (p4 : Int32) (s0 : Int32) (h : zH) : Option (Int32 × zH) :=
  f_X6_rivalCells_b130 E k59 p0 p1 p2 p4 s0 (0 : Int32) h
theorem w_X6_rivalCells_b129 (C0 : zCx p l e R s m args below meth c D B0 7 "FranchiseLedgerModel" cX6_rivalCells E 4 128 (Option.some Jvm.ClassFile.FieldType.int) "rivalCells") {r : Int32} {h' : zH} {k59 : Nat → Int32 → Int32 → Int32 → Int32 → zH → Option (Int32 × zH)} (hk59 : ∀ (p0 : Nat) (p1 : Int32) (p2 : Int32) (p3 : Int32) (p4 : Int32) (h : zH), k59 p0 p1 p2 p3 p4 h = some (r, h') → zW p l e R s m args below meth c D B0 7 (zEnd D B0 R below args s (zoI r) h') h 59 [(0, .ref p0), (1, .int p1), (2, .int p2), (3, .int p3), (4, .int p4)] []) {p0 : Nat} {p1 : Int32} {p2 : Int32} {p4 : Int32} {s0 : Int32} {h : zH} (hf : f_X6_rivalCells_b129 E k59 p0 p1 p2 p4 s0 h = some (r, h')) : zW p l e R s m args below meth c D B0 7 (zEnd D B0 R below args s (zoI r) h') h 129 [(0, .ref p0), (1, .int p1), (2, .int p2), (4, .int p4)] [.int s0] := by
  unfold f_X6_rivalCells_b129 at hf
  refine zr_iconst C0 (v := 0) dX6_rivalCells_129 (by decide) ?_
  exact w_X6_rivalCells_b130 C0 hk59 hf
def f_X6_rivalCells_b125 (E : zE) (k59 : Nat → Int32 → Int32 → Int32 → Int32 → zH → Option (Int32 × zH)) (p0 : Nat) (p1 : Int32) (p2 : Int32) (p4 : Int32) (s0 : Int32) (h : zH) : Option (Int32 × zH) :=
  f_X6_rivalCells_b130 E k59 p0 p1 p2 p4 s0 (1 : Int32) h
theorem w_X6_rivalCells_b125 (C0 : zCx p l e R s m args below meth c D B0 7 "FranchiseLedgerModel" cX6_rivalCells E 4 128 (Option.some Jvm.ClassFile.FieldType.int) "rivalCells") {r : Int32} {h' : zH} {k59 : Nat → Int32 → Int32 → Int32 → Int32 → zH → Option (Int32 × zH)} (hk59 : ∀ (p0 : Nat) (p1 : Int32) (p2 : Int32) (p3 : Int32) (p4 : Int32) (h : zH), k59 p0 p1 p2 p3 p4 h = some (r, h') → zW p l e R s m args below meth c D B0 7 (zEnd D B0 R below args s (zoI r) h') h 59 [(0, .ref p0), (1, .int p1), (2, .int p2), (3, .int p3), (4, .int p4)] []) {p0 : Nat} {p1 : Int32} {p2 : Int32} {p4 : Int32} {s0 : Int32} {h : zH} (hf : f_X6_rivalCells_b125 E k59 p0 p1 p2 p4 s0 h = some (r, h')) : zW p l e R s m args below meth c D B0 7 (zEnd D B0 R below args s (zoI r) h') h 125 [(0, .ref p0), (1, .int p1), (2, .int p2), (4, .int p4)] [.int s0] := by
  unfold f_X6_rivalCells_b125 at hf
  refine zr_iconst C0 (v := 1) dX6_rivalCells_125 (by decide) ?_
  refine zr_goto C0 (tgt := 130) dX6_rivalCells_126 (by decide) ?_
  exact w_X6_rivalCells_b130 C0 hk59 hf
def f_X6_rivalCells_l59 (E : zE) : Nat → Nat → Int32 → Int32 → Int32 → Int32 → zH → Option (Int32 × zH)
  | 0, _, _, _, _, _, _ => none
  | n + 1, p0, p1, p2, p3, p4, h =>
    if (900 : Int32) ≤ p4 then (
      some (p3, h)
    ) else (
      (gR h p0 1 0).bind fun x2 =>
      (dL h x2 ((250 : Int32) + p4)).bind fun x4 =>
      if x4 = (p1.toInt64) then (
        (cko h p0 1).bind fun _ =>
        bnd2 (f_X6_nearestOutlet E p0 p4 p1 h) fun x10 h8 =>
        (cko h8 p0 1).bind fun _ =>
        bnd2 (f_X6_nearestOutlet E p0 p4 p2 h8) fun x14 h12 =>
        if x14 = (-1 : Int32) then (
          f_X6_rivalCells_b129 E (f_X6_rivalCells_l59 E n) p0 p1 p2 p4 p3 h12
        ) else (
          if x10 = (-1 : Int32) then (
            f_X6_rivalCells_b125 E (f_X6_rivalCells_l59 E n) p0 p1 p2 p4 p3 h12
          ) else (
            if x10 ≤ x14 then (
              f_X6_rivalCells_b129 E (f_X6_rivalCells_l59 E n) p0 p1 p2 p4 p3 h12
            ) else (
              f_X6_rivalCells_b125 E (f_X6_rivalCells_l59 E n) p0 p1 p2 p4 p3 h12
            )
          )
        )
      ) else (
        f_X6_rivalCells_b132 E (f_X6_rivalCells_l59 E n) p0 p1 p2 p3 p4 h
      )
    )
theorem w_X6_rivalCells_l59 (C0 : zCx p l e R s m args below meth c D B0 7 "FranchiseLedgerModel" cX6_rivalCells E 4 128 (Option.some Jvm.ClassFile.FieldType.int) "rivalCells") {r : Int32} {h' : zH} : ∀ (n : Nat) (p0 : Nat) (p1 : Int32) (p2 : Int32) (p3 : Int32) (p4 : Int32) (h : zH), f_X6_rivalCells_l59 E n p0 p1 p2 p3 p4 h = some (r, h') → zW p l e R s m args below meth c D B0 7 (zEnd D B0 R below args s (zoI r) h') h 59 [(0, .ref p0), (1, .int p1), (2, .int p2), (3, .int p3), (4, .int p4)] [] := by
  intro n
  induction n with
  | zero =>
    intro p0 p1 p2 p3 p4 h hf
    unfold f_X6_rivalCells_l59 at hf
    cases hf
  | succ n ih =>
    intro p0 p1 p2 p3 p4 h hf
    unfold f_X6_rivalCells_l59 at hf
    refine zr_iload C0 dX6_rivalCells_59 4 rfl ?_
    refine zr_sipush C0 (v := 900) dX6_rivalCells_61 (by decide) ?_
    refine zr_icmp_ge C0 (tgt := 138) dX6_rivalCells_64 (by decide) (fun c1 => ?_) (fun c1 => ?_)
    · have hf := zif_t c1 hf
      refine zr_iload_n C0 dX6_rivalCells_138 rfl 3 rfl ?_
      refine zretW hf ?_
      exact zr_iret C0 (ty := .int) rfl rfl dX6_rivalCells_139 rfl
    · have hf := zif_f c1 hf
      refine zr_aload_n C0 dX6_rivalCells_67 rfl 0 rfl ?_
      obtain ⟨x2, e3, hf⟩ := zbind hf
      refine zr_get C0 fl_X6_9_X6 dX6_rivalCells_68 (zgR e3) ?_
      refine zr_sipush C0 (v := 250) dX6_rivalCells_71 (by decide) ?_
      refine zr_iload C0 dX6_rivalCells_74 4 rfl ?_
      refine zr_iadd C0 dX6_rivalCells_76 ?_
      obtain ⟨x4, e5, hf⟩ := zbind hf
      refine zr_lald C0 dX6_rivalCells_77 e5 ?_
      refine zr_iload_n C0 dX6_rivalCells_78 rfl 1 rfl ?_
      refine zr_i2l C0 dX6_rivalCells_79 ?_
      refine zr_lcmp C0 dX6_rivalCells_80 ?_
      refine zr_if_eq C0 (tgt := 87) dX6_rivalCells_81 (by decide) (fun c6 => ?_) (fun c6 => ?_)
      · have hf := zif_t (zl_eq.mp c6) hf
        refine zr_aload_n C0 dX6_rivalCells_87 rfl 0 rfl ?_
        refine zr_iload C0 dX6_rivalCells_88 4 rfl ?_
        refine zr_iload_n C0 dX6_rivalCells_90 rfl 1 rfl ?_
        obtain ⟨_, e7, hf⟩ := zbind hf
        obtain ⟨x10, h8, e9, hf⟩ := zbind2 hf
        refine zr_callV_r C0 cv_X6_152_X6 rfl (zcko e7) (m_X6_nearestOutlet C0.2.2.2.2.2.2.1 e9) (by decide) (by decide) rfl rfl (Nat.le_of_ble_eq_true rfl) dX6_rivalCells_91 rfl ?_
        refine zr_istore (i := 5) (lv' := [(5, .int x10), (0, .ref p0), (1, .int p1), (2, .int p2), (3, .int p3), (4, .int p4)]) C0 dX6_rivalCells_94 (by decide) (by first | rfl | simp [zst1, zst2, zcat_rf]) ?_
        refine zr_aload_n C0 dX6_rivalCells_96 rfl 1 rfl ?_
        refine zr_iload C0 dX6_rivalCells_97 5 rfl ?_
        refine zr_iload_n C0 dX6_rivalCells_99 rfl 3 rfl ?_
        obtain ⟨_, e11, hf⟩ := zbind hf
        obtain ⟨x14, h12, e13, hf⟩ := zbind2 hf
        refine zr_callV_r C0 cv_X6_152_X6 rfl (zcko e11) (m_X6_nearestOutlet C0.2.2.2.2.2.2.1 e13) (by decide) (by decide) rfl rfl (Nat.le_of_ble_eq_true rfl) dX6_rivalCells_100 rfl ?_
        refine zr_istore (i := 6) (lv' := [(6, .int x14), (5, .int x10), (0, .ref p0), (1, .int p1), (2, .int p2), (3, .int p3), (4, .int p4)]) C0 dX6_rivalCells_103 (by decide) (by first | rfl | simp [zst1, zst2, zcat_rf]) ?_
        refine zr_iload_n C0 dX6_rivalCells_105 rfl 5 rfl ?_
        refine zr_iload C0 dX6_rivalCells_106 0 rfl ?_
        refine zr_iconst C0 (v := -1) dX6_rivalCells_108 (by decide) ?_
        refine zr_icmp_eq C0 (tgt := 129) dX6_rivalCells_109 (by decide) (fun c15 => ?_) (fun c15 => ?_)
        · have hf := zif_t c15 hf
          refine zr_sub [2, 3, 4, 6] rfl ?_
          exact w_X6_rivalCells_b129 C0 ih hf
        · have hf := zif_f c15 hf
          refine zr_iload C0 dX6_rivalCells_112 1 rfl ?_
          refine zr_iconst C0 (v := -1) dX6_rivalCells_114 (by decide) ?_
          refine zr_icmp_eq C0 (tgt := 125) dX6_rivalCells_115 (by decide) (fun c16 => ?_) (fun c16 => ?_)
          · have hf := zif_t c16 hf
            refine zr_sub [2, 3, 4, 6] rfl ?_
            exact w_X6_rivalCells_b125 C0 ih hf
          · have hf := zif_f c16 hf
            refine zr_iload C0 dX6_rivalCells_118 0 rfl ?_
            refine zr_iload C0 dX6_rivalCells_120 1 rfl ?_
            refine zr_icmp_ge C0 (tgt := 129) dX6_rivalCells_122 (by decide) (fun c17 => ?_) (fun c17 => ?_)
            · have hf := zif_t c17 hf
              refine zr_sub [2, 3, 4, 6] rfl ?_
              exact w_X6_rivalCells_b129 C0 ih hf
            · have hf := zif_f c17 hf
              refine zr_sub [2, 3, 4, 6] rfl ?_
              exact w_X6_rivalCells_b125 C0 ih hf
      · have hf := zif_f (zl_eqn.mp c6) hf
        refine zr_goto C0 (tgt := 132) dX6_rivalCells_84 (by decide) ?_
        exact w_X6_rivalCells_b132 C0 ih hf
def f_X6_rivalCells_b45 (E : zE) (p0 : Nat) (p1 : Int32) (p2 : Int32) (s0 : Nat) (s1 : Int32) (h : zH) : Option (Int32 × zH) :=
  (cko h s0 1).bind fun _ =>
  bnd2 (f_X6_throwsIf E s0 s1 (2 : Int32) h) fun x4 h2 =>
  if x4 = 0 then (
    f_X6_rivalCells_l59 E E.1 p0 p1 p2 (0 : Int32) (0 : Int32) h2
  ) else (
    f_X6_rivalCells_b52 E  h2
  )
theorem w_X6_rivalCells_b45 (C0 : zCx p l e R s m args below meth c D B0 7 "FranchiseLedgerModel" cX6_rivalCells E 4 128 (Option.some Jvm.ClassFile.FieldType.int) "rivalCells") {r : Int32} {h' : zH} {p0 : Nat} {p1 : Int32} {p2 : Int32} {s0 : Nat} {s1 : Int32} {h : zH} (hf : f_X6_rivalCells_b45 E p0 p1 p2 s0 s1 h = some (r, h')) : zW p l e R s m args below meth c D B0 7 (zEnd D B0 R below args s (zoI r) h') h 45 [(0, .ref p0), (1, .int p1), (2, .int p2)] [.int s1, .ref s0] := by
  unfold f_X6_rivalCells_b45 at hf
  refine zr_iconst C0 (v := 2) dX6_rivalCells_45 (by decide) ?_
  obtain ⟨_, e1, hf⟩ := zbind hf
  obtain ⟨x4, h2, e3, hf⟩ := zbind2 hf
  refine zr_callV_r C0 cv_X6_81_X6 rfl (zcko e1) (m_X6_throwsIf C0.2.2.2.2.2.2.1 e3) (by decide) (by decide) rfl rfl (Nat.le_of_ble_eq_true rfl) dX6_rivalCells_46 rfl ?_
  refine zr_if_eq C0 (tgt := 54) dX6_rivalCells_49 (by decide) (fun c5 => ?_) (fun c5 => ?_)
  · have hf := zif_t c5 hf
    refine zr_iconst C0 (v := 0) dX6_rivalCells_54 (by decide) ?_
    refine zr_istore_n (i := 3) (lv' := [(3, .int (0 : Int32)), (0, .ref p0), (1, .int p1), (2, .int p2)]) C0 dX6_rivalCells_55 rfl (by decide) (by first | rfl | simp [zst1, zst2, zcat_rf]) ?_
    refine zr_iconst C0 (v := 0) dX6_rivalCells_56 (by decide) ?_
    refine zr_istore (i := 4) (lv' := [(4, .int (0 : Int32)), (3, .int (0 : Int32)), (0, .ref p0), (1, .int p1), (2, .int p2)]) C0 dX6_rivalCells_57 (by decide) (by first | rfl | simp [zst1, zst2, zcat_rf]) ?_
    refine zr_sub [2, 3, 4, 1, 0] rfl ?_
    exact w_X6_rivalCells_l59 C0 _ _ _ _ _ _ _ hf
  · have hf := zif_f c5 hf
    refine zr_sub [] rfl ?_
    exact w_X6_rivalCells_b52 C0 hf
def f_X6_rivalCells_b27 (E : zE) (p0 : Nat) (p1 : Int32) (p2 : Int32) (s0 : Nat) (s1 : Int32) (h : zH) : Option (Int32 × zH) :=
  (cko h s0 1).bind fun _ =>
  bnd2 (f_X6_throwsIf E s0 s1 (1 : Int32) h) fun x4 h2 =>
  if x4 = 0 then (
    if p1 = p2 then (
      f_X6_rivalCells_b45 E p0 p1 p2 p0 (1 : Int32) h2
    ) else (
      f_X6_rivalCells_b45 E p0 p1 p2 p0 (0 : Int32) h2
    )
  ) else (
    f_X6_rivalCells_b52 E  h2
  )
theorem w_X6_rivalCells_b27 (C0 : zCx p l e R s m args below meth c D B0 7 "FranchiseLedgerModel" cX6_rivalCells E 4 128 (Option.some Jvm.ClassFile.FieldType.int) "rivalCells") {r : Int32} {h' : zH} {p0 : Nat} {p1 : Int32} {p2 : Int32} {s0 : Nat} {s1 : Int32} {h : zH} (hf : f_X6_rivalCells_b27 E p0 p1 p2 s0 s1 h = some (r, h')) : zW p l e R s m args below meth c D B0 7 (zEnd D B0 R below args s (zoI r) h') h 27 [(0, .ref p0), (1, .int p1), (2, .int p2)] [.int s1, .ref s0] := by
  unfold f_X6_rivalCells_b27 at hf
  refine zr_iconst C0 (v := 1) dX6_rivalCells_27 (by decide) ?_
  obtain ⟨_, e1, hf⟩ := zbind hf
  obtain ⟨x4, h2, e3, hf⟩ := zbind2 hf
  refine zr_callV_r C0 cv_X6_81_X6 rfl (zcko e1) (m_X6_throwsIf C0.2.2.2.2.2.2.1 e3) (by decide) (by decide) rfl rfl (Nat.le_of_ble_eq_true rfl) dX6_rivalCells_28 rfl ?_
  refine zr_if_ne C0 (tgt := 52) dX6_rivalCells_31 (by decide) (fun c5 => ?_) (fun c5 => ?_)
  · have hf := zif_f c5 hf
    refine zr_sub [] rfl ?_
    exact w_X6_rivalCells_b52 C0 hf
  · have hf := zif_t c5 hf
    refine zr_aload_n C0 dX6_rivalCells_34 rfl 0 rfl ?_
    refine zr_iload_n C0 dX6_rivalCells_35 rfl 1 rfl ?_
    refine zr_iload_n C0 dX6_rivalCells_36 rfl 2 rfl ?_
    refine zr_icmp_ne C0 (tgt := 44) dX6_rivalCells_37 (by decide) (fun c6 => ?_) (fun c6 => ?_)
    · have hf := zif_f c6 hf
      refine zr_iconst C0 (v := 0) dX6_rivalCells_44 (by decide) ?_
      exact w_X6_rivalCells_b45 C0 hf
    · have hf := zif_t c6 hf
      refine zr_iconst C0 (v := 1) dX6_rivalCells_40 (by decide) ?_
      refine zr_goto C0 (tgt := 45) dX6_rivalCells_41 (by decide) ?_
      exact w_X6_rivalCells_b45 C0 hf
def f_X6_rivalCells_b22 (E : zE) (p0 : Nat) (p1 : Int32) (p2 : Int32) (s0 : Nat) (h : zH) : Option (Int32 × zH) :=
  f_X6_rivalCells_b27 E p0 p1 p2 s0 (1 : Int32) h
theorem w_X6_rivalCells_b22 (C0 : zCx p l e R s m args below meth c D B0 7 "FranchiseLedgerModel" cX6_rivalCells E 4 128 (Option.some Jvm.ClassFile.FieldType.int) "rivalCells") {r : Int32} {h' : zH} {p0 : Nat} {p1 : Int32} {p2 : Int32} {s0 : Nat} {h : zH} (hf : f_X6_rivalCells_b22 E p0 p1 p2 s0 h = some (r, h')) : zW p l e R s m args below meth c D B0 7 (zEnd D B0 R below args s (zoI r) h') h 22 [(0, .ref p0), (1, .int p1), (2, .int p2)] [.ref s0] := by
  unfold f_X6_rivalCells_b22 at hf
  refine zr_iconst C0 (v := 1) dX6_rivalCells_22 (by decide) ?_
  refine zr_goto C0 (tgt := 27) dX6_rivalCells_23 (by decide) ?_
  exact w_X6_rivalCells_b27 C0 hf
def f_X6_rivalCells_b0 (E : zE) (p0 : Nat) (p1 : Int32) (p2 : Int32) (h : zH) : Option (Int32 × zH) :=
  (pF h p0 1 2 (.int (0 : Int32))).bind fun h1 =>
  (cko h1 p0 1).bind fun _ =>
  bnd2 (f_X6_isFranchisee E p0 p1 h1) fun x6 h4 =>
  if x6 = 0 then (
    f_X6_rivalCells_b22 E p0 p1 p2 p0 h4
  ) else (
    (cko h4 p0 1).bind fun _ =>
    bnd2 (f_X6_isFranchisee E p0 p2 h4) fun x11 h9 =>
    if x11 = 0 then (
      f_X6_rivalCells_b22 E p0 p1 p2 p0 h9
    ) else (
      f_X6_rivalCells_b27 E p0 p1 p2 p0 (0 : Int32) h9
    )
  )
theorem w_X6_rivalCells_b0 (C0 : zCx p l e R s m args below meth c D B0 7 "FranchiseLedgerModel" cX6_rivalCells E 4 128 (Option.some Jvm.ClassFile.FieldType.int) "rivalCells") {r : Int32} {h' : zH} {p0 : Nat} {p1 : Int32} {p2 : Int32} {h : zH} (hf : f_X6_rivalCells_b0 E p0 p1 p2 h = some (r, h')) : zW p l e R s m args below meth c D B0 7 (zEnd D B0 R below args s (zoI r) h') h 0 [(0, .ref p0), (1, .int p1), (2, .int p2)] [] := by
  unfold f_X6_rivalCells_b0 at hf
  refine zr_aload_n C0 dX6_rivalCells_0 rfl 0 rfl ?_
  refine zr_iconst C0 (v := 0) dX6_rivalCells_1 (by decide) ?_
  obtain ⟨h1, e2, hf⟩ := zbind hf
  refine zr_put C0 pl_X6_50_X6 dX6_rivalCells_2 (fun h => by cases h) rfl rfl e2 ?_
  refine zr_aload_n C0 dX6_rivalCells_5 rfl 0 rfl ?_
  refine zr_aload_n C0 dX6_rivalCells_6 rfl 0 rfl ?_
  refine zr_iload_n C0 dX6_rivalCells_7 rfl 1 rfl ?_
  obtain ⟨_, e3, hf⟩ := zbind hf
  obtain ⟨x6, h4, e5, hf⟩ := zbind2 hf
  refine zr_callV_r C0 cv_X6_85_X6 rfl (zcko e3) (m_X6_isFranchisee C0.2.2.2.2.2.2.1 e5) (by decide) (by decide) rfl rfl (Nat.le_of_ble_eq_true rfl) dX6_rivalCells_8 rfl ?_
  refine zr_if_eq C0 (tgt := 22) dX6_rivalCells_11 (by decide) (fun c7 => ?_) (fun c7 => ?_)
  · have hf := zif_t c7 hf
    exact w_X6_rivalCells_b22 C0 hf
  · have hf := zif_f c7 hf
    refine zr_aload_n C0 dX6_rivalCells_14 rfl 0 rfl ?_
    refine zr_iload_n C0 dX6_rivalCells_15 rfl 2 rfl ?_
    obtain ⟨_, e8, hf⟩ := zbind hf
    obtain ⟨x11, h9, e10, hf⟩ := zbind2 hf
    refine zr_callV_r C0 cv_X6_85_X6 rfl (zcko e8) (m_X6_isFranchisee C0.2.2.2.2.2.2.1 e10) (by decide) (by decide) rfl rfl (Nat.le_of_ble_eq_true rfl) dX6_rivalCells_16 rfl ?_
    refine zr_if_ne C0 (tgt := 26) dX6_rivalCells_19 (by decide) (fun c12 => ?_) (fun c12 => ?_)
    · have hf := zif_f c12 hf
      refine zr_iconst C0 (v := 0) dX6_rivalCells_26 (by decide) ?_
      exact w_X6_rivalCells_b27 C0 hf
    · have hf := zif_t c12 hf
      exact w_X6_rivalCells_b22 C0 hf
def f_X6_rivalCells (E : zE) (p0 : Nat) (p1 : Int32) (p2 : Int32) (h : zH) : Option (Int32 × zH) := f_X6_rivalCells_b0 E p0 p1 p2 h
theorem m_X6_rivalCells {l : Launch} (hst : l.stackTraces = false) {D : zD} {B0 : Nat} {E : zE} {p0 : Nat} {p1 : Int32} {p2 : Int32} {h h' : zH} {r : Int32} (hf : f_X6_rivalCells E p0 p1 p2 h = some (r, h')) : zMet l yX6_rivalCells (ws_ yX6_rivalCells cX6_rivalCells 7 (Option.some Jvm.ClassFile.FieldType.int)) 4 128 D B0 E [.ref p0, .int p1, .int p2] h (zoI r) h' := by
  unfold f_X6_rivalCells at hf
  refine zMet_of hst (by decide +kernel) rfl rfl (Nat.le_of_ble_eq_true rfl) (fun p e R s m below meth c C0 hno => ?_)
  show zW _ _ _ _ _ _ _ _ _ _ _ _ _ _ _ _ [(0, .ref p0), (1, .int p1), (2, .int p2)] []
  exact w_X6_rivalCells_b0 C0 hf
def f_X6_cellsBefore_b66 (E : zE) (k5 : Nat → Int32 → Int32 → Int32 → Int32 → zH → Option (Int32 × zH)) (p0 : Nat) (p1 : Int32) (p2 : Int32) (p4 : Int32) (s0 : Int32) (s1 : Int32) (h : zH) : Option (Int32 × zH) :=
  k5 p0 p1 p2 (s0 + s1) (p4 + 1) h
theorem w_X6_cellsBefore_b66 (C0 : zCx p l e R s m args below meth c D B0 5 "FranchiseLedgerModel" cX6_cellsBefore E 1 60 (Option.some Jvm.ClassFile.FieldType.int) "cellsBefore") {r : Int32} {h' : zH} {k5 : Nat → Int32 → Int32 → Int32 → Int32 → zH → Option (Int32 × zH)} (hk5 : ∀ (p0 : Nat) (p1 : Int32) (p2 : Int32) (p3 : Int32) (p4 : Int32) (h : zH), k5 p0 p1 p2 p3 p4 h = some (r, h') → zW p l e R s m args below meth c D B0 5 (zEnd D B0 R below args s (zoI r) h') h 5 [(0, .ref p0), (1, .int p1), (2, .int p2), (3, .int p3), (4, .int p4)] []) {p0 : Nat} {p1 : Int32} {p2 : Int32} {p4 : Int32} {s0 : Int32} {s1 : Int32} {h : zH} (hf : f_X6_cellsBefore_b66 E k5 p0 p1 p2 p4 s0 s1 h = some (r, h')) : zW p l e R s m args below meth c D B0 5 (zEnd D B0 R below args s (zoI r) h') h 66 [(0, .ref p0), (1, .int p1), (2, .int p2), (4, .int p4)] [.int s1, .int s0] := by
  unfold f_X6_cellsBefore_b66 at hf
  refine zr_iadd C0 dX6_cellsBefore_66 ?_
  refine zr_istore_n (i := 3) (lv' := [(3, .int (s0 + s1)), (0, .ref p0), (1, .int p1), (2, .int p2), (4, .int p4)]) C0 dX6_cellsBefore_67 rfl (by decide) (by first | rfl | simp [zst1, zst2, zcat_rf]) ?_
  refine zr_iinc (lv' := [(4, .int (p4 + 1)), (3, .int (s0 + s1)), (0, .ref p0), (1, .int p1), (2, .int p2)]) C0 dX6_cellsBefore_68 4 rfl rfl (by decide) (by first | rfl | simp [zst1, zst2, zcat_rf]) ?_
  refine zr_goto C0 (tgt := 5) dX6_cellsBefore_71 (by decide) ?_
  refine zr_sub [2, 3, 4, 1, 0] rfl ?_
  exact hk5 _ _ _ _ _ _ hf
def f_X6_cellsBefore_b65 (E : zE) (k5 : Nat → Int32 → Int32 → Int32 → Int32 → zH → Option (Int32 × zH)) (p0 : Nat) (p1 : Int32) (p2 : Int32) (p4 : Int32) (s0 : Int32) (h : zH) : Option (Int32 × zH) :=
  f_X6_cellsBefore_b66 E k5 p0 p1 p2 p4 s0 (0 : Int32) h
theorem w_X6_cellsBefore_b65 (C0 : zCx p l e R s m args below meth c D B0 5 "FranchiseLedgerModel" cX6_cellsBefore E 1 60 (Option.some Jvm.ClassFile.FieldType.int) "cellsBefore") {r : Int32} {h' : zH} {k5 : Nat → Int32 → Int32 → Int32 → Int32 → zH → Option (Int32 × zH)} (hk5 : ∀ (p0 : Nat) (p1 : Int32) (p2 : Int32) (p3 : Int32) (p4 : Int32) (h : zH), k5 p0 p1 p2 p3 p4 h = some (r, h') → zW p l e R s m args below meth c D B0 5 (zEnd D B0 R below args s (zoI r) h') h 5 [(0, .ref p0), (1, .int p1), (2, .int p2), (3, .int p3), (4, .int p4)] []) {p0 : Nat} {p1 : Int32} {p2 : Int32} {p4 : Int32} {s0 : Int32} {h : zH} (hf : f_X6_cellsBefore_b65 E k5 p0 p1 p2 p4 s0 h = some (r, h')) : zW p l e R s m args below meth c D B0 5 (zEnd D B0 R below args s (zoI r) h') h 65 [(0, .ref p0), (1, .int p1), (2, .int p2), (4, .int p4)] [.int s0] := by
  unfold f_X6_cellsBefore_b65 at hf
  refine zr_iconst C0 (v := 0) dX6_cellsBefore_65 (by decide) ?_
  exact w_X6_cellsBefore_b66 C0 hk5 hf
def f_X6_cellsBefore_b61 (E : zE) (k5 : Nat → Int32 → Int32 → Int32 → Int32 → zH → Option (Int32 × zH)) (p0 : Nat) (p1 : Int32) (p2 : Int32) (p4 : Int32) (s0 : Int32) (h : zH) : Option (Int32 × zH) :=
  f_X6_cellsBefore_b66 E k5 p0 p1 p2 p4 s0 (1 : Int32) h
theorem w_X6_cellsBefore_b61 (C0 : zCx p l e R s m args below meth c D B0 5 "FranchiseLedgerModel" cX6_cellsBefore E 1 60 (Option.some Jvm.ClassFile.FieldType.int) "cellsBefore") {r : Int32} {h' : zH} {k5 : Nat → Int32 → Int32 → Int32 → Int32 → zH → Option (Int32 × zH)} (hk5 : ∀ (p0 : Nat) (p1 : Int32) (p2 : Int32) (p3 : Int32) (p4 : Int32) (h : zH), k5 p0 p1 p2 p3 p4 h = some (r, h') → zW p l e R s m args below meth c D B0 5 (zEnd D B0 R below args s (zoI r) h') h 5 [(0, .ref p0), (1, .int p1), (2, .int p2), (3, .int p3), (4, .int p4)] []) {p0 : Nat} {p1 : Int32} {p2 : Int32} {p4 : Int32} {s0 : Int32} {h : zH} (hf : f_X6_cellsBefore_b61 E k5 p0 p1 p2 p4 s0 h = some (r, h')) : zW p l e R s m args below meth c D B0 5 (zEnd D B0 R below args s (zoI r) h') h 61 [(0, .ref p0), (1, .int p1), (2, .int p2), (4, .int p4)] [.int s0] := by
  unfold f_X6_cellsBefore_b61 at hf
  refine zr_iconst C0 (v := 1) dX6_cellsBefore_61 (by decide) ?_
  refine zr_goto C0 (tgt := 66) dX6_cellsBefore_62 (by decide) ?_
  exact w_X6_cellsBefore_b66 C0 hk5 hf
def f_X6_cellsBefore_l5 (E : zE) : Nat → Nat → Int32 → Int32 → Int32 → Int32 → zH → Option (Int32 × zH)
  | 0, _, _, _, _, _, _ => none
  | n + 1, p0, p1, p2, p3, p4, h =>
    if (900 : Int32) ≤ p4 then (
      some (p3, h)
    ) else (
      (gR h p0 1 0).bind fun x2 =>
      (dL h x2 ((250 : Int32) + p4)).bind fun x4 =>
      if x4 = (p1.toInt64) then (
        if (100 : Int32) ≤ p2 then (
          if (p2 - (100 : Int32)) ≤ (p4 / (30 : Int32)) then (
            f_X6_cellsBefore_b65 E (f_X6_cellsBefore_l5 E n) p0 p1 p2 p4 p3 h
          ) else (
            f_X6_cellsBefore_b61 E (f_X6_cellsBefore_l5 E n) p0 p1 p2 p4 p3 h
          )
        ) else (
          if p2 ≤ (p4 - p4 / (30 : Int32) * (30 : Int32)) then (
            f_X6_cellsBefore_b65 E (f_X6_cellsBefore_l5 E n) p0 p1 p2 p4 p3 h
          ) else (
            f_X6_cellsBefore_b61 E (f_X6_cellsBefore_l5 E n) p0 p1 p2 p4 p3 h
          )
        )
      ) else (
        f_X6_cellsBefore_b65 E (f_X6_cellsBefore_l5 E n) p0 p1 p2 p4 p3 h
      )
    )
theorem w_X6_cellsBefore_l5 (C0 : zCx p l e R s m args below meth c D B0 5 "FranchiseLedgerModel" cX6_cellsBefore E 1 60 (Option.some Jvm.ClassFile.FieldType.int) "cellsBefore") {r : Int32} {h' : zH} : ∀ (n : Nat) (p0 : Nat) (p1 : Int32) (p2 : Int32) (p3 : Int32) (p4 : Int32) (h : zH), f_X6_cellsBefore_l5 E n p0 p1 p2 p3 p4 h = some (r, h') → zW p l e R s m args below meth c D B0 5 (zEnd D B0 R below args s (zoI r) h') h 5 [(0, .ref p0), (1, .int p1), (2, .int p2), (3, .int p3), (4, .int p4)] [] := by
  intro n
  induction n with
  | zero =>
    intro p0 p1 p2 p3 p4 h hf
    unfold f_X6_cellsBefore_l5 at hf
    cases hf
  | succ n ih =>
    intro p0 p1 p2 p3 p4 h hf
    unfold f_X6_cellsBefore_l5 at hf
    refine zr_iload C0 dX6_cellsBefore_5 4 rfl ?_
    refine zr_sipush C0 (v := 900) dX6_cellsBefore_7 (by decide) ?_
    refine zr_icmp_ge C0 (tgt := 74) dX6_cellsBefore_10 (by decide) (fun c1 => ?_) (fun c1 => ?_)
    · have hf := zif_t c1 hf
      refine zr_iload_n C0 dX6_cellsBefore_74 rfl 3 rfl ?_
      refine zretW hf ?_
      exact zr_iret C0 (ty := .int) rfl rfl dX6_cellsBefore_75 rfl
    · have hf := zif_f c1 hf
      refine zr_iload_n C0 dX6_cellsBefore_13 rfl 3 rfl ?_
      refine zr_aload_n C0 dX6_cellsBefore_14 rfl 0 rfl ?_
      obtain ⟨x2, e3, hf⟩ := zbind hf
      refine zr_get C0 fl_X6_9_X6 dX6_cellsBefore_15 (zgR e3) ?_
      refine zr_sipush C0 (v := 250) dX6_cellsBefore_18 (by decide) ?_
      refine zr_iload C0 dX6_cellsBefore_21 4 rfl ?_
      refine zr_iadd C0 dX6_cellsBefore_23 ?_
      obtain ⟨x4, e5, hf⟩ := zbind hf
      refine zr_lald C0 dX6_cellsBefore_24 e5 ?_
      refine zr_iload_n C0 dX6_cellsBefore_25 rfl 1 rfl ?_
      refine zr_i2l C0 dX6_cellsBefore_26 ?_
      refine zr_lcmp C0 dX6_cellsBefore_27 ?_
      refine zr_if_ne C0 (tgt := 65) dX6_cellsBefore_28 (by decide) (fun c6 => ?_) (fun c6 => ?_)
      · have hf := zif_f (zl_ne.mp c6) hf
        refine zr_sub [0, 1, 2, 4] rfl ?_
        exact w_X6_cellsBefore_b65 C0 ih hf
      · have hf := zif_t (zl_nen.mp c6) hf
        refine zr_iload_n C0 dX6_cellsBefore_31 rfl 2 rfl ?_
        refine zr_bipush C0 (v := 100) dX6_cellsBefore_32 (by decide) ?_
        refine zr_icmp_ge C0 (tgt := 49) dX6_cellsBefore_34 (by decide) (fun c7 => ?_) (fun c7 => ?_)
        · have hf := zif_t c7 hf
          refine zr_iload C0 dX6_cellsBefore_49 4 rfl ?_
          refine zr_bipush C0 (v := 30) dX6_cellsBefore_51 (by decide) ?_
          refine zr_idiv C0 dX6_cellsBefore_53 (by decide) ?_
          refine zr_iload_n C0 dX6_cellsBefore_54 rfl 2 rfl ?_
          refine zr_bipush C0 (v := 100) dX6_cellsBefore_55 (by decide) ?_
          refine zr_isub C0 dX6_cellsBefore_57 ?_
          refine zr_icmp_ge C0 (tgt := 65) dX6_cellsBefore_58 (by decide) (fun c8 => ?_) (fun c8 => ?_)
          · have hf := zif_t c8 hf
            refine zr_sub [0, 1, 2, 4] rfl ?_
            exact w_X6_cellsBefore_b65 C0 ih hf
          · have hf := zif_f c8 hf
            refine zr_sub [0, 1, 2, 4] rfl ?_
            exact w_X6_cellsBefore_b61 C0 ih hf
        · have hf := zif_f c7 hf
          refine zr_iload C0 dX6_cellsBefore_37 4 rfl ?_
          refine zr_bipush C0 (v := 30) dX6_cellsBefore_39 (by decide) ?_
          refine zr_irem C0 dX6_cellsBefore_41 (by decide) ?_
          refine zr_iload_n C0 dX6_cellsBefore_42 rfl 2 rfl ?_
          refine zr_icmp_ge C0 (tgt := 65) dX6_cellsBefore_43 (by decide) (fun c9 => ?_) (fun c9 => ?_)
          · have hf := zif_t c9 hf
            refine zr_sub [0, 1, 2, 4] rfl ?_
            exact w_X6_cellsBefore_b65 C0 ih hf
          · have hf := zif_f c9 hf
            refine zr_goto C0 (tgt := 61) dX6_cellsBefore_46 (by decide) ?_
            refine zr_sub [0, 1, 2, 4] rfl ?_
            exact w_X6_cellsBefore_b61 C0 ih hf
def f_X6_cellsBefore_b0 (E : zE) (p0 : Nat) (p1 : Int32) (p2 : Int32) (h : zH) : Option (Int32 × zH) :=
  f_X6_cellsBefore_l5 E E.1 p0 p1 p2 (0 : Int32) (0 : Int32) h
theorem w_X6_cellsBefore_b0 (C0 : zCx p l e R s m args below meth c D B0 5 "FranchiseLedgerModel" cX6_cellsBefore E 1 60 (Option.some Jvm.ClassFile.FieldType.int) "cellsBefore") {r : Int32} {h' : zH} {p0 : Nat} {p1 : Int32} {p2 : Int32} {h : zH} (hf : f_X6_cellsBefore_b0 E p0 p1 p2 h = some (r, h')) : zW p l e R s m args below meth c D B0 5 (zEnd D B0 R below args s (zoI r) h') h 0 [(0, .ref p0), (1, .int p1), (2, .int p2)] [] := by
  unfold f_X6_cellsBefore_b0 at hf
  refine zr_iconst C0 (v := 0) dX6_cellsBefore_0 (by decide) ?_
  refine zr_istore_n (i := 3) (lv' := [(3, .int (0 : Int32)), (0, .ref p0), (1, .int p1), (2, .int p2)]) C0 dX6_cellsBefore_1 rfl (by decide) (by first | rfl | simp [zst1, zst2, zcat_rf]) ?_
  refine zr_iconst C0 (v := 0) dX6_cellsBefore_2 (by decide) ?_
  refine zr_istore (i := 4) (lv' := [(4, .int (0 : Int32)), (3, .int (0 : Int32)), (0, .ref p0), (1, .int p1), (2, .int p2)]) C0 dX6_cellsBefore_3 (by decide) (by first | rfl | simp [zst1, zst2, zcat_rf]) ?_
  refine zr_sub [2, 3, 4, 1, 0] rfl ?_
  exact w_X6_cellsBefore_l5 C0 _ _ _ _ _ _ _ hf
def f_X6_cellsBefore (E : zE) (p0 : Nat) (p1 : Int32) (p2 : Int32) (h : zH) : Option (Int32 × zH) := f_X6_cellsBefore_b0 E p0 p1 p2 h
theorem m_X6_cellsBefore {l : Launch} (hst : l.stackTraces = false) {D : zD} {B0 : Nat} {E : zE} {p0 : Nat} {p1 : Int32} {p2 : Int32} {h h' : zH} {r : Int32} (hf : f_X6_cellsBefore E p0 p1 p2 h = some (r, h')) : zMet l yX6_cellsBefore (ws_ yX6_cellsBefore cX6_cellsBefore 5 (Option.some Jvm.ClassFile.FieldType.int)) 1 60 D B0 E [.ref p0, .int p1, .int p2] h (zoI r) h' := by
  unfold f_X6_cellsBefore at hf
  refine zMet_of hst (by decide +kernel) rfl rfl (Nat.le_of_ble_eq_true rfl) (fun p e R s m below meth c C0 hno => ?_)
  show zW _ _ _ _ _ _ _ _ _ _ _ _ _ _ _ _ [(0, .ref p0), (1, .int p1), (2, .int p2)] []
  exact w_X6_cellsBefore_b0 C0 hf
def f_X6_halvingLine_b121 (E : zE) (p3 : Int32) (h : zH) : Option (Int32 × zH) :=
  some (p3, h)
theorem w_X6_halvingLine_b121 (C0 : zCx p l e R s m args below meth c D B0 8 "FranchiseLedgerModel" cX6_halvingLine E 3 106 (Option.some Jvm.ClassFile.FieldType.int) "halvingLine") {r : Int32} {h' : zH} {p3 : Int32} {h : zH} (hf : f_X6_halvingLine_b121 E p3 h = some (r, h')) : zW p l e R s m args below meth c D B0 8 (zEnd D B0 R below args s (zoI r) h') h 121 [(3, .int p3)] [] := by
  unfold f_X6_halvingLine_b121 at hf
  refine zr_iload_n C0 dX6_halvingLine_121 rfl 0 rfl ?_
  refine zretW hf ?_
  exact zr_iret C0 (ty := .int) rfl rfl dX6_halvingLine_122 rfl
def f_X6_halvingLine_b115 (E : zE) (k42 : Nat → Int32 → Int32 → Int32 → Int32 → Int32 → zH → Option (Int32 × zH)) (p0 : Nat) (p1 : Int32) (p2 : Int32) (p3 : Int32) (p4 : Int32) (p5 : Int32) (h : zH) : Option (Int32 × zH) :=
  k42 p0 p1 p2 p3 p4 (p5 + 1) h
theorem w_X6_halvingLine_b115 (C0 : zCx p l e R s m args below meth c D B0 8 "FranchiseLedgerModel" cX6_halvingLine E 3 106 (Option.some Jvm.ClassFile.FieldType.int) "halvingLine") {r : Int32} {h' : zH} {k42 : Nat → Int32 → Int32 → Int32 → Int32 → Int32 → zH → Option (Int32 × zH)} (hk42 : ∀ (p0 : Nat) (p1 : Int32) (p2 : Int32) (p3 : Int32) (p4 : Int32) (p5 : Int32) (h : zH), k42 p0 p1 p2 p3 p4 p5 h = some (r, h') → zW p l e R s m args below meth c D B0 8 (zEnd D B0 R below args s (zoI r) h') h 42 [(0, .ref p0), (1, .int p1), (2, .int p2), (3, .int p3), (4, .int p4), (5, .int p5)] []) {p0 : Nat} {p1 : Int32} {p2 : Int32} {p3 : Int32} {p4 : Int32} {p5 : Int32} {h : zH} (hf : f_X6_halvingLine_b115 E k42 p0 p1 p2 p3 p4 p5 h = some (r, h')) : zW p l e R s m args below meth c D B0 8 (zEnd D B0 R below args s (zoI r) h') h 115 [(0, .ref p0), (1, .int p1), (2, .int p2), (3, .int p3), (4, .int p4), (5, .int p5)] [] := by
  unfold f_X6_halvingLine_b115 at hf
  refine zr_iinc (lv' := [(5, .int (p5 + 1)), (0, .ref p0), (1, .int p1), (2, .int p2), (3, .int p3), (4, .int p4)]) C0 dX6_halvingLine_115 5 rfl rfl (by decide) (by first | rfl | simp [zst1, zst2, zcat_rf]) ?_
  refine zr_goto C0 (tgt := 42) dX6_halvingLine_118 (by decide) ?_
  refine zr_sub [1, 2, 3, 4, 5, 0] rfl ?_
  exact hk42 _ _ _ _ _ _ _ hf
def f_X6_halvingLine_b108 (E : zE) (k42 : Nat → Int32 → Int32 → Int32 → Int32 → Int32 → zH → Option (Int32 × zH)) (p0 : Nat) (p1 : Int32) (p2 : Int32) (p5 : Int32) (p6 : Int32) (p7 : Int32) (h : zH) : Option (Int32 × zH) :=
  f_X6_halvingLine_b115 E k42 p0 p1 p2 p6 p7 p5 h
theorem w_X6_halvingLine_b108 (C0 : zCx p l e R s m args below meth c D B0 8 "FranchiseLedgerModel" cX6_halvingLine E 3 106 (Option.some Jvm.ClassFile.FieldType.int) "halvingLine") {r : Int32} {h' : zH} {k42 : Nat → Int32 → Int32 → Int32 → Int32 → Int32 → zH → Option (Int32 × zH)} (hk42 : ∀ (p0 : Nat) (p1 : Int32) (p2 : Int32) (p3 : Int32) (p4 : Int32) (p5 : Int32) (h : zH), k42 p0 p1 p2 p3 p4 p5 h = some (r, h') → zW p l e R s m args below meth c D B0 8 (zEnd D B0 R below args s (zoI r) h') h 42 [(0, .ref p0), (1, .int p1), (2, .int p2), (3, .int p3), (4, .int p4), (5, .int p5)] []) {p0 : Nat} {p1 : Int32} {p2 : Int32} {p5 : Int32} {p6 : Int32} {p7 : Int32} {h : zH} (hf : f_X6_halvingLine_b108 E k42 p0 p1 p2 p5 p6 p7 h = some (r, h')) : zW p l e R s m args below meth c D B0 8 (zEnd D B0 R below args s (zoI r) h') h 108 [(0, .ref p0), (1, .int p1), (2, .int p2), (5, .int p5), (6, .int p6), (7, .int p7)] [] := by
  unfold f_X6_halvingLine_b108 at hf
  refine zr_iload C0 dX6_halvingLine_108 4 rfl ?_
  refine zr_istore_n (i := 3) (lv' := [(3, .int p6), (0, .ref p0), (1, .int p1), (2, .int p2), (5, .int p5), (6, .int p6), (7, .int p7)]) C0 dX6_halvingLine_110 rfl (by decide) (by first | rfl | simp [zst1, zst2, zcat_rf]) ?_
  refine zr_iload C0 dX6_halvingLine_111 6 rfl ?_
  refine zr_istore (i := 4) (lv' := [(4, .int p7), (3, .int p6), (0, .ref p0), (1, .int p1), (2, .int p2), (5, .int p5), (6, .int p6), (7, .int p7)]) C0 dX6_halvingLine_113 (by decide) (by first | rfl | simp [zst1, zst2, zcat_rf]) ?_
  refine zr_sub [2, 3, 4, 1, 0, 5] rfl ?_
  exact w_X6_halvingLine_b115 C0 hk42 hf
def f_X6_halvingLine_b75 (E : zE) (k42 : Nat → Int32 → Int32 → Int32 → Int32 → Int32 → zH → Option (Int32 × zH)) (p0 : Nat) (p1 : Int32) (p2 : Int32) (p3 : Int32) (p4 : Int32) (p5 : Int32) (s0 : Int32) (h : zH) : Option (Int32 × zH) :=
  (cko h p0 1).bind fun _ =>
  bnd2 (f_X6_cellsBefore E p0 p1 s0 h) fun x4 h2 =>
  bnd2 (f_X6_size E (p2 - ((2 : Int32) * x4)) h2) fun x7 h5 =>
  if p3 = (-1 : Int32) then (
    f_X6_halvingLine_b108 E k42 p0 p1 p2 p5 s0 x7 h5
  ) else (
    if x7 < p4 then (
      f_X6_halvingLine_b108 E k42 p0 p1 p2 p5 s0 x7 h5
    ) else (
      f_X6_halvingLine_b115 E k42 p0 p1 p2 p3 p4 p5 h5
    )
  )
theorem w_X6_halvingLine_b75 (C0 : zCx p l e R s m args below meth c D B0 8 "FranchiseLedgerModel" cX6_halvingLine E 3 106 (Option.some Jvm.ClassFile.FieldType.int) "halvingLine") {r : Int32} {h' : zH} {k42 : Nat → Int32 → Int32 → Int32 → Int32 → Int32 → zH → Option (Int32 × zH)} (hk42 : ∀ (p0 : Nat) (p1 : Int32) (p2 : Int32) (p3 : Int32) (p4 : Int32) (p5 : Int32) (h : zH), k42 p0 p1 p2 p3 p4 p5 h = some (r, h') → zW p l e R s m args below meth c D B0 8 (zEnd D B0 R below args s (zoI r) h') h 42 [(0, .ref p0), (1, .int p1), (2, .int p2), (3, .int p3), (4, .int p4), (5, .int p5)] []) {p0 : Nat} {p1 : Int32} {p2 : Int32} {p3 : Int32} {p4 : Int32} {p5 : Int32} {s0 : Int32} {h : zH} (hf : f_X6_halvingLine_b75 E k42 p0 p1 p2 p3 p4 p5 s0 h = some (r, h')) : zW p l e R s m args below meth c D B0 8 (zEnd D B0 R below args s (zoI r) h') h 75 [(0, .ref p0), (1, .int p1), (2, .int p2), (3, .int p3), (4, .int p4), (5, .int p5)] [.int s0] := by
  unfold f_X6_halvingLine_b75 at hf
  refine zr_istore (i := 6) (lv' := [(6, .int s0), (0, .ref p0), (1, .int p1), (2, .int p2), (3, .int p3), (4, .int p4), (5, .int p5)]) C0 dX6_halvingLine_75 (by decide) (by first | rfl | simp [zst1, zst2, zcat_rf]) ?_
  refine zr_iload_n C0 dX6_halvingLine_77 rfl 3 rfl ?_
  refine zr_iconst C0 (v := 2) dX6_halvingLine_78 (by decide) ?_
  refine zr_aload_n C0 dX6_halvingLine_79 rfl 1 rfl ?_
  refine zr_iload_n C0 dX6_halvingLine_80 rfl 2 rfl ?_
  refine zr_iload C0 dX6_halvingLine_81 0 rfl ?_
  obtain ⟨_, e1, hf⟩ := zbind hf
  obtain ⟨x4, h2, e3, hf⟩ := zbind2 hf
  refine zr_callV_r C0 cv_X6_157_X6 rfl (zcko e1) (m_X6_cellsBefore C0.2.2.2.2.2.2.1 e3) (by decide) (by decide) rfl rfl (Nat.le_of_ble_eq_true rfl) dX6_halvingLine_83 rfl ?_
  refine zr_imul C0 dX6_halvingLine_86 ?_
  refine zr_isub C0 dX6_halvingLine_87 ?_
  obtain ⟨x7, h5, e6, hf⟩ := zbind2 hf
  refine zr_callS_r C0 cv_X6_107 (m_X6_size C0.2.2.2.2.2.2.1 e6) (by decide) (by decide) rfl rfl (Nat.le_of_ble_eq_true rfl) dX6_halvingLine_88 rfl ?_
  refine zr_istore (i := 7) (lv' := [(7, .int x7), (6, .int s0), (0, .ref p0), (1, .int p1), (2, .int p2), (3, .int p3), (4, .int p4), (5, .int p5)]) C0 dX6_halvingLine_91 (by decide) (by first | rfl | simp [zst1, zst2, zcat_rf]) ?_
  refine zr_iload_n C0 dX6_halvingLine_93 rfl 5 rfl ?_
  refine zr_iconst C0 (v := -1) dX6_halvingLine_94 (by decide) ?_
  refine zr_icmp_eq C0 (tgt := 108) dX6_halvingLine_95 (by decide) (fun c8 => ?_) (fun c8 => ?_)
  · have hf := zif_t c8 hf
    refine zr_sub [2, 3, 4, 7, 1, 0] rfl ?_
    exact w_X6_halvingLine_b108 C0 hk42 hf
  · have hf := zif_f c8 hf
    refine zr_iload C0 dX6_halvingLine_98 0 rfl ?_
    refine zr_iload C0 dX6_halvingLine_100 6 rfl ?_
    refine zr_icmp_lt C0 (tgt := 108) dX6_halvingLine_102 (by decide) (fun c9 => ?_) (fun c9 => ?_)
    · have hf := zif_t c9 hf
      refine zr_sub [2, 3, 4, 7, 1, 0] rfl ?_
      exact w_X6_halvingLine_b108 C0 hk42 hf
    · have hf := zif_f c9 hf
      refine zr_goto C0 (tgt := 115) dX6_halvingLine_105 (by decide) ?_
      refine zr_sub [2, 3, 4, 5, 6, 7] rfl ?_
      exact w_X6_halvingLine_b115 C0 hk42 hf
def f_X6_halvingLine_l42 (E : zE) : Nat → Nat → Int32 → Int32 → Int32 → Int32 → Int32 → zH → Option (Int32 × zH)
  | 0, _, _, _, _, _, _, _ => none
  | n + 1, p0, p1, p2, p3, p4, p5, h =>
    if (58 : Int32) ≤ p5 then (
      f_X6_halvingLine_b121 E p3 h
    ) else (
      if p2 ≤ 0 then (
        f_X6_halvingLine_b121 E p3 h
      ) else (
        if (29 : Int32) ≤ p5 then (
          f_X6_halvingLine_b75 E (f_X6_halvingLine_l42 E n) p0 p1 p2 p3 p4 p5 (((100 : Int32) + p5) - (28 : Int32)) h
        ) else (
          f_X6_halvingLine_b75 E (f_X6_halvingLine_l42 E n) p0 p1 p2 p3 p4 p5 (p5 + (1 : Int32)) h
        )
      )
    )
theorem w_X6_halvingLine_l42 (C0 : zCx p l e R s m args below meth c D B0 8 "FranchiseLedgerModel" cX6_halvingLine E 3 106 (Option.some Jvm.ClassFile.FieldType.int) "halvingLine") {r : Int32} {h' : zH} : ∀ (n : Nat) (p0 : Nat) (p1 : Int32) (p2 : Int32) (p3 : Int32) (p4 : Int32) (p5 : Int32) (h : zH), f_X6_halvingLine_l42 E n p0 p1 p2 p3 p4 p5 h = some (r, h') → zW p l e R s m args below meth c D B0 8 (zEnd D B0 R below args s (zoI r) h') h 42 [(0, .ref p0), (1, .int p1), (2, .int p2), (3, .int p3), (4, .int p4), (5, .int p5)] [] := by
  intro n
  induction n with
  | zero =>
    intro p0 p1 p2 p3 p4 p5 h hf
    unfold f_X6_halvingLine_l42 at hf
    cases hf
  | succ n ih =>
    intro p0 p1 p2 p3 p4 p5 h hf
    unfold f_X6_halvingLine_l42 at hf
    refine zr_iload C0 dX6_halvingLine_42 5 rfl ?_
    refine zr_bipush C0 (v := 58) dX6_halvingLine_44 (by decide) ?_
    refine zr_icmp_ge C0 (tgt := 121) dX6_halvingLine_46 (by decide) (fun c1 => ?_) (fun c1 => ?_)
    · have hf := zif_t c1 hf
      refine zr_sub [3] rfl ?_
      exact w_X6_halvingLine_b121 C0 hf
    · have hf := zif_f c1 hf
      refine zr_iload_n C0 dX6_halvingLine_49 rfl 2 rfl ?_
      refine zr_if_le C0 (tgt := 121) dX6_halvingLine_50 (by decide) (fun c2 => ?_) (fun c2 => ?_)
      · have hf := zif_t c2 hf
        refine zr_sub [3] rfl ?_
        exact w_X6_halvingLine_b121 C0 hf
      · have hf := zif_f c2 hf
        refine zr_iload C0 dX6_halvingLine_53 5 rfl ?_
        refine zr_bipush C0 (v := 29) dX6_halvingLine_55 (by decide) ?_
        refine zr_icmp_ge C0 (tgt := 67) dX6_halvingLine_57 (by decide) (fun c3 => ?_) (fun c3 => ?_)
        · have hf := zif_t c3 hf
          refine zr_bipush C0 (v := 100) dX6_halvingLine_67 (by decide) ?_
          refine zr_iload C0 dX6_halvingLine_69 5 rfl ?_
          refine zr_iadd C0 dX6_halvingLine_71 ?_
          refine zr_bipush C0 (v := 28) dX6_halvingLine_72 (by decide) ?_
          refine zr_isub C0 dX6_halvingLine_74 ?_
          exact w_X6_halvingLine_b75 C0 ih hf
        · have hf := zif_f c3 hf
          refine zr_iload C0 dX6_halvingLine_60 5 rfl ?_
          refine zr_iconst C0 (v := 1) dX6_halvingLine_62 (by decide) ?_
          refine zr_iadd C0 dX6_halvingLine_63 ?_
          refine zr_goto C0 (tgt := 75) dX6_halvingLine_64 (by decide) ?_
          exact w_X6_halvingLine_b75 C0 ih hf
def f_X6_halvingLine_b19 (E : zE) (p0 : Nat) (p1 : Int32) (s0 : Nat) (s1 : Int32) (h : zH) : Option (Int32 × zH) :=
  (cko h s0 1).bind fun _ =>
  bnd2 (f_X6_throwsIf E s0 s1 (1 : Int32) h) fun x4 h2 =>
  if x4 = 0 then (
    (cko h2 p0 1).bind fun _ =>
    bnd2 (f_X6_areaOf E p0 p1 h2) fun x9 h7 =>
    f_X6_halvingLine_l42 E E.1 p0 p1 x9 (-1 : Int32) (0 : Int32) (0 : Int32) h7
  ) else (
    some ((0 : Int32), h2)
  )
theorem w_X6_halvingLine_b19 (C0 : zCx p l e R s m args below meth c D B0 8 "FranchiseLedgerModel" cX6_halvingLine E 3 106 (Option.some Jvm.ClassFile.FieldType.int) "halvingLine") {r : Int32} {h' : zH} {p0 : Nat} {p1 : Int32} {s0 : Nat} {s1 : Int32} {h : zH} (hf : f_X6_halvingLine_b19 E p0 p1 s0 s1 h = some (r, h')) : zW p l e R s m args below meth c D B0 8 (zEnd D B0 R below args s (zoI r) h') h 19 [(0, .ref p0), (1, .int p1)] [.int s1, .ref s0] := by
  unfold f_X6_halvingLine_b19 at hf
  refine zr_iconst C0 (v := 1) dX6_halvingLine_19 (by decide) ?_
  obtain ⟨_, e1, hf⟩ := zbind hf
  obtain ⟨x4, h2, e3, hf⟩ := zbind2 hf
  refine zr_callV_r C0 cv_X6_81_X6 rfl (zcko e1) (m_X6_throwsIf C0.2.2.2.2.2.2.1 e3) (by decide) (by decide) rfl rfl (Nat.le_of_ble_eq_true rfl) dX6_halvingLine_20 rfl ?_
  refine zr_if_eq C0 (tgt := 28) dX6_halvingLine_23 (by decide) (fun c5 => ?_) (fun c5 => ?_)
  · have hf := zif_t c5 hf
    refine zr_aload_n C0 dX6_halvingLine_28 rfl 0 rfl ?_
    refine zr_iload_n C0 dX6_halvingLine_29 rfl 1 rfl ?_
    obtain ⟨_, e6, hf⟩ := zbind hf
    obtain ⟨x9, h7, e8, hf⟩ := zbind2 hf
    refine zr_callV_r C0 cv_X6_89_X6 rfl (zcko e6) (m_X6_areaOf C0.2.2.2.2.2.2.1 e8) (by decide) (by decide) rfl rfl (Nat.le_of_ble_eq_true rfl) dX6_halvingLine_30 rfl ?_
    refine zr_istore_n (i := 2) (lv' := [(2, .int x9), (0, .ref p0), (1, .int p1)]) C0 dX6_halvingLine_33 rfl (by decide) (by first | rfl | simp [zst1, zst2, zcat_rf]) ?_
    refine zr_iconst C0 (v := -1) dX6_halvingLine_34 (by decide) ?_
    refine zr_istore_n (i := 3) (lv' := [(3, .int (-1 : Int32)), (2, .int x9), (0, .ref p0), (1, .int p1)]) C0 dX6_halvingLine_35 rfl (by decide) (by first | rfl | simp [zst1, zst2, zcat_rf]) ?_
    refine zr_iconst C0 (v := 0) dX6_halvingLine_36 (by decide) ?_
    refine zr_istore (i := 4) (lv' := [(4, .int (0 : Int32)), (3, .int (-1 : Int32)), (2, .int x9), (0, .ref p0), (1, .int p1)]) C0 dX6_halvingLine_37 (by decide) (by first | rfl | simp [zst1, zst2, zcat_rf]) ?_
    refine zr_iconst C0 (v := 0) dX6_halvingLine_39 (by decide) ?_
    refine zr_istore (i := 5) (lv' := [(5, .int (0 : Int32)), (4, .int (0 : Int32)), (3, .int (-1 : Int32)), (2, .int x9), (0, .ref p0), (1, .int p1)]) C0 dX6_halvingLine_40 (by decide) (by first | rfl | simp [zst1, zst2, zcat_rf]) ?_
    refine zr_sub [4, 5, 3, 2, 1, 0] rfl ?_
    exact w_X6_halvingLine_l42 C0 _ _ _ _ _ _ _ _ hf
  · have hf := zif_f c5 hf
    refine zr_iconst C0 (v := 0) dX6_halvingLine_26 (by decide) ?_
    refine zretW hf ?_
    exact zr_iret C0 (ty := .int) rfl rfl dX6_halvingLine_27 rfl
def f_X6_halvingLine_b0 (E : zE) (p0 : Nat) (p1 : Int32) (h : zH) : Option (Int32 × zH) :=
  (pF h p0 1 2 (.int (0 : Int32))).bind fun h1 =>
  (cko h1 p0 1).bind fun _ =>
  bnd2 (f_X6_isFranchisee E p0 p1 h1) fun x6 h4 =>
  if x6 = 0 then (
    f_X6_halvingLine_b19 E p0 p1 p0 (1 : Int32) h4
  ) else (
    f_X6_halvingLine_b19 E p0 p1 p0 (0 : Int32) h4
  )
theorem w_X6_halvingLine_b0 (C0 : zCx p l e R s m args below meth c D B0 8 "FranchiseLedgerModel" cX6_halvingLine E 3 106 (Option.some Jvm.ClassFile.FieldType.int) "halvingLine") {r : Int32} {h' : zH} {p0 : Nat} {p1 : Int32} {h : zH} (hf : f_X6_halvingLine_b0 E p0 p1 h = some (r, h')) : zW p l e R s m args below meth c D B0 8 (zEnd D B0 R below args s (zoI r) h') h 0 [(0, .ref p0), (1, .int p1)] [] := by
  unfold f_X6_halvingLine_b0 at hf
  refine zr_aload_n C0 dX6_halvingLine_0 rfl 0 rfl ?_
  refine zr_iconst C0 (v := 0) dX6_halvingLine_1 (by decide) ?_
  obtain ⟨h1, e2, hf⟩ := zbind hf
  refine zr_put C0 pl_X6_50_X6 dX6_halvingLine_2 (fun h => by cases h) rfl rfl e2 ?_
  refine zr_aload_n C0 dX6_halvingLine_5 rfl 0 rfl ?_
  refine zr_aload_n C0 dX6_halvingLine_6 rfl 0 rfl ?_
  refine zr_iload_n C0 dX6_halvingLine_7 rfl 1 rfl ?_
  obtain ⟨_, e3, hf⟩ := zbind hf
  obtain ⟨x6, h4, e5, hf⟩ := zbind2 hf
  refine zr_callV_r C0 cv_X6_85_X6 rfl (zcko e3) (m_X6_isFranchisee C0.2.2.2.2.2.2.1 e5) (by decide) (by decide) rfl rfl (Nat.le_of_ble_eq_true rfl) dX6_halvingLine_8 rfl ?_
  refine zr_if_ne C0 (tgt := 18) dX6_halvingLine_11 (by decide) (fun c7 => ?_) (fun c7 => ?_)
  · have hf := zif_f c7 hf
    refine zr_iconst C0 (v := 0) dX6_halvingLine_18 (by decide) ?_
    exact w_X6_halvingLine_b19 C0 hf
  · have hf := zif_t c7 hf
    refine zr_iconst C0 (v := 1) dX6_halvingLine_14 (by decide) ?_
    refine zr_goto C0 (tgt := 19) dX6_halvingLine_15 (by decide) ?_
    exact w_X6_halvingLine_b19 C0 hf
def f_X6_halvingLine (E : zE) (p0 : Nat) (p1 : Int32) (h : zH) : Option (Int32 × zH) := f_X6_halvingLine_b0 E p0 p1 h
theorem m_X6_halvingLine {l : Launch} (hst : l.stackTraces = false) {D : zD} {B0 : Nat} {E : zE} {p0 : Nat} {p1 : Int32} {h h' : zH} {r : Int32} (hf : f_X6_halvingLine E p0 p1 h = some (r, h')) : zMet l yX6_halvingLine (ws_ yX6_halvingLine cX6_halvingLine 8 (Option.some Jvm.ClassFile.FieldType.int)) 3 106 D B0 E [.ref p0, .int p1] h (zoI r) h' := by
  unfold f_X6_halvingLine at hf
  refine zMet_of hst (by decide +kernel) rfl rfl (Nat.le_of_ble_eq_true rfl) (fun p e R s m below meth c C0 hno => ?_)
  show zW _ _ _ _ _ _ _ _ _ _ _ _ _ _ _ _ [(0, .ref p0), (1, .int p1)] []
  exact w_X6_halvingLine_b0 C0 hf
def f_X6_isPlan_b0 (E : zE) (p0 : Nat) (p1 : Int32) (h : zH) : Option (Int32 × zH) :=
  (gR h p0 1 0).bind fun x1 =>
  (dL h x1 (1 : Int32)).bind fun x3 =>
  bnd2 (f_X6_inRange E (p1.toInt64) (0 : Int64) (x3 - (1 : Int64)) h) fun x7 h5 =>
  (zgd .boolean x7).bind fun _ =>
  some (x7, h5)
theorem w_X6_isPlan_b0 (C0 : zCx p l e R s m args below meth c D B0 2 "FranchiseLedgerModel" cX6_isPlan E 2 85 (Option.some Jvm.ClassFile.FieldType.boolean) "isPlan") {r : Int32} {h' : zH} {p0 : Nat} {p1 : Int32} {h : zH} (hf : f_X6_isPlan_b0 E p0 p1 h = some (r, h')) : zW p l e R s m args below meth c D B0 2 (zEnd D B0 R below args s (zoI r) h') h 0 [(0, .ref p0), (1, .int p1)] [] := by
  unfold f_X6_isPlan_b0 at hf
  refine zr_iload_n C0 dX6_isPlan_0 rfl 1 rfl ?_
  refine zr_i2l C0 dX6_isPlan_1 ?_
  refine zr_lconst C0 (v := 0) dX6_isPlan_2 (by decide) ?_
  refine zr_aload_n C0 dX6_isPlan_3 rfl 0 rfl ?_
  obtain ⟨x1, e2, hf⟩ := zbind hf
  refine zr_get C0 fl_X6_9_X6 dX6_isPlan_4 (zgR e2) ?_
  refine zr_iconst C0 (v := 1) dX6_isPlan_7 (by decide) ?_
  obtain ⟨x3, e4, hf⟩ := zbind hf
  refine zr_lald C0 dX6_isPlan_8 e4 ?_
  refine zr_lconst C0 (v := 1) dX6_isPlan_9 (by decide) ?_
  refine zr_lsub C0 dX6_isPlan_10 ?_
  obtain ⟨x7, h5, e6, hf⟩ := zbind2 hf
  refine zr_callS_r C0 cv_X6_53 (m_X6_inRange C0.2.2.2.2.2.2.1 e6) (by decide) (by decide) rfl rfl (Nat.le_of_ble_eq_true rfl) dX6_isPlan_11 rfl ?_
  obtain ⟨_, e8, hf⟩ := zbind hf
  refine zretW hf ?_
  exact zr_iret C0 (ty := .boolean) rfl (zgd_n e8) dX6_isPlan_14 rfl
def f_X6_isPlan (E : zE) (p0 : Nat) (p1 : Int32) (h : zH) : Option (Int32 × zH) := f_X6_isPlan_b0 E p0 p1 h
theorem m_X6_isPlan {l : Launch} (hst : l.stackTraces = false) {D : zD} {B0 : Nat} {E : zE} {p0 : Nat} {p1 : Int32} {h h' : zH} {r : Int32} (hf : f_X6_isPlan E p0 p1 h = some (r, h')) : zMet l yX6_isPlan (ws_ yX6_isPlan cX6_isPlan 2 (Option.some Jvm.ClassFile.FieldType.boolean)) 2 85 D B0 E [.ref p0, .int p1] h (zoI r) h' := by
  unfold f_X6_isPlan at hf
  refine zMet_of hst (by decide +kernel) rfl rfl (Nat.le_of_ble_eq_true rfl) (fun p e R s m below meth c C0 hno => ?_)
  show zW _ _ _ _ _ _ _ _ _ _ _ _ _ _ _ _ [(0, .ref p0), (1, .int p1)] []
  exact w_X6_isPlan_b0 C0 hf
def f_X6_ofPlan_b0 (E : zE) (p0 : Nat) (p1 : Int32) (p2 : Int32) (h : zH) : Option (Int64 × zH) :=
  (gR h p0 1 0).bind fun x1 =>
  (dL h x1 (((14 : Int32) + ((11 : Int32) * p1)) + p2)).bind fun x3 =>
  some (x3, h)
theorem w_X6_ofPlan_b0 (C0 : zCx p l e R s m args below meth c D B0 3 "FranchiseLedgerModel" cX6_ofPlan E 1 60 (Option.some Jvm.ClassFile.FieldType.long) "ofPlan") {r : Int64} {h' : zH} {p0 : Nat} {p1 : Int32} {p2 : Int32} {h : zH} (hf : f_X6_ofPlan_b0 E p0 p1 p2 h = some (r, h')) : zW p l e R s m args below meth c D B0 3 (zEnd D B0 R below args s (zoL r) h') h 0 [(0, .ref p0), (1, .int p1), (2, .int p2)] [] := by
  unfold f_X6_ofPlan_b0 at hf
  refine zr_aload_n C0 dX6_ofPlan_0 rfl 0 rfl ?_
  obtain ⟨x1, e2, hf⟩ := zbind hf
  refine zr_get C0 fl_X6_9_X6 dX6_ofPlan_1 (zgR e2) ?_
  refine zr_bipush C0 (v := 14) dX6_ofPlan_4 (by decide) ?_
  refine zr_bipush C0 (v := 11) dX6_ofPlan_6 (by decide) ?_
  refine zr_iload_n C0 dX6_ofPlan_8 rfl 1 rfl ?_
  refine zr_imul C0 dX6_ofPlan_9 ?_
  refine zr_iadd C0 dX6_ofPlan_10 ?_
  refine zr_iload_n C0 dX6_ofPlan_11 rfl 2 rfl ?_
  refine zr_iadd C0 dX6_ofPlan_12 ?_
  obtain ⟨x3, e4, hf⟩ := zbind hf
  refine zr_lald C0 dX6_ofPlan_13 e4 ?_
  refine zretW hf ?_
  exact zr_lret C0 rfl dX6_ofPlan_14 rfl
def f_X6_ofPlan (E : zE) (p0 : Nat) (p1 : Int32) (p2 : Int32) (h : zH) : Option (Int64 × zH) := f_X6_ofPlan_b0 E p0 p1 p2 h
theorem m_X6_ofPlan {l : Launch} (hst : l.stackTraces = false) {D : zD} {B0 : Nat} {E : zE} {p0 : Nat} {p1 : Int32} {p2 : Int32} {h h' : zH} {r : Int64} (hf : f_X6_ofPlan E p0 p1 p2 h = some (r, h')) : zMet l yX6_ofPlan (ws_ yX6_ofPlan cX6_ofPlan 3 (Option.some Jvm.ClassFile.FieldType.long)) 1 60 D B0 E [.ref p0, .int p1, .int p2] h (zoL r) h' := by
  unfold f_X6_ofPlan at hf
  refine zMet_of hst (by decide +kernel) rfl rfl (Nat.le_of_ble_eq_true rfl) (fun p e R s m below meth c C0 hno => ?_)
  show zW _ _ _ _ _ _ _ _ _ _ _ _ _ _ _ _ [(0, .ref p0), (1, .int p1), (2, .int p2)] []
  exact w_X6_ofPlan_b0 C0 hf
def f_X6_half_b0 (E : zE) (p0 : Int64) (h : zH) : Option (Int64 × zH) :=
  some (((p0 + (5000 : Int64)) / (10000 : Int64)), h)
theorem w_X6_half_b0 (C0 : zCx p l e R s m args below meth c D B0 2 "FranchiseLedgerModel" cX6_half E 1 60 (Option.some Jvm.ClassFile.FieldType.long) "half") {r : Int64} {h' : zH} {p0 : Int64} {h : zH} (hf : f_X6_half_b0 E p0 h = some (r, h')) : zW p l e R s m args below meth c D B0 2 (zEnd D B0 R below args s (zoL r) h') h 0 [(0, .long p0)] [] := by
  unfold f_X6_half_b0 at hf
  refine zr_lload_n C0 dX6_half_0 rfl 0 rfl ?_
  refine zr_ldc2 C0 (v := 5000) q2807 dX6_half_1 ?_
  refine zr_ladd C0 dX6_half_4 ?_
  refine zr_ldc2 C0 (v := 10000) q2808 dX6_half_5 ?_
  refine zr_ldiv C0 dX6_half_8 (by decide) ?_
  refine zretW hf ?_
  exact zr_lret C0 rfl dX6_half_9 rfl
def f_X6_half (E : zE) (p0 : Int64) (h : zH) : Option (Int64 × zH) := f_X6_half_b0 E p0 h
theorem m_X6_half {l : Launch} (hst : l.stackTraces = false) {D : zD} {B0 : Nat} {E : zE} {p0 : Int64} {h h' : zH} {r : Int64} (hf : f_X6_half E p0 h = some (r, h')) : zMet l yX6_half (ws_ yX6_half cX6_half 2 (Option.some Jvm.ClassFile.FieldType.long)) 1 60 D B0 E [.long p0] h (zoL r) h' := by
  unfold f_X6_half at hf
  refine zMet_of hst (by decide +kernel) rfl rfl (Nat.le_of_ble_eq_true rfl) (fun p e R s m below meth c C0 hno => ?_)
  show zW _ _ _ _ _ _ _ _ _ _ _ _ _ _ _ _ [(0, .long p0)] []
  exact w_X6_half_b0 C0 hf
def f_X6_royaltyOf_b137 (E : zE) (k17 : Nat → Int32 → Int64 → Int64 → Int64 → Int64 → Int32 → zH → Option (Int64 × zH)) (p0 : Nat) (p1 : Int32) (p2 : Int64) (p4 : Int64) (p6 : Int64) (p8 : Int64) (p10 : Int32) (h : zH) : Option (Int64 × zH) :=
  k17 p0 p1 p2 p4 p6 p8 (p10 + 1) h
theorem w_X6_royaltyOf_b137 (C0 : zCx p l e R s m args below meth c D B0 14 "FranchiseLedgerModel" cX6_royaltyOf E 2 82 (Option.some Jvm.ClassFile.FieldType.long) "royaltyOf") {r : Int64} {h' : zH} {k17 : Nat → Int32 → Int64 → Int64 → Int64 → Int64 → Int32 → zH → Option (Int64 × zH)} (hk17 : ∀ (p0 : Nat) (p1 : Int32) (p2 : Int64) (p4 : Int64) (p6 : Int64) (p8 : Int64) (p10 : Int32) (h : zH), k17 p0 p1 p2 p4 p6 p8 p10 h = some (r, h') → zW p l e R s m args below meth c D B0 14 (zEnd D B0 R below args s (zoL r) h') h 17 [(0, .ref p0), (1, .int p1), (2, .long p2), (4, .long p4), (6, .long p6), (8, .long p8), (10, .int p10)] []) {p0 : Nat} {p1 : Int32} {p2 : Int64} {p4 : Int64} {p6 : Int64} {p8 : Int64} {p10 : Int32} {h : zH} (hf : f_X6_royaltyOf_b137 E k17 p0 p1 p2 p4 p6 p8 p10 h = some (r, h')) : zW p l e R s m args below meth c D B0 14 (zEnd D B0 R below args s (zoL r) h') h 137 [(0, .ref p0), (1, .int p1), (2, .long p2), (4, .long p4), (6, .long p6), (8, .long p8), (10, .int p10)] [] := by
  unfold f_X6_royaltyOf_b137 at hf
  refine zr_iinc (lv' := [(10, .int (p10 + 1)), (0, .ref p0), (1, .int p1), (2, .long p2), (4, .long p4), (6, .long p6), (8, .long p8)]) C0 dX6_royaltyOf_137 6 rfl rfl (by decide) (by first | rfl | simp [zst1, zst2, zcat_rf]) ?_
  refine zr_goto C0 (tgt := 17) dX6_royaltyOf_140 (by decide) ?_
  refine zr_sub [1, 2, 3, 4, 5, 6, 0] rfl ?_
  exact hk17 _ _ _ _ _ _ _ _ hf
def f_X6_royaltyOf_b106 (E : zE) (k17 : Nat → Int32 → Int64 → Int64 → Int64 → Int64 → Int32 → zH → Option (Int64 × zH)) (p0 : Nat) (p1 : Int32) (p2 : Int64) (p4 : Int64) (p6 : Int64) (p8 : Int64) (p10 : Int32) (p11 : Int32) (h : zH) : Option (Int64 × zH) :=
  if p11 = 0 then (
    (cko h p0 1).bind fun _ =>
    bnd2 (f_X6_ofPlan E p0 p1 ((3 : Int32) + p10) h) fun x5 h3 =>
    (cko h3 p0 1).bind fun _ =>
    bnd2 (f_X6_ofPlan E p0 p1 ((7 : Int32) + p10) h3) fun x9 h7 =>
    f_X6_royaltyOf_b137 E k17 p0 p1 p2 p4 x5 x9 p10 h7
  ) else (
    f_X6_royaltyOf_b137 E k17 p0 p1 p2 p4 p6 p8 p10 h
  )
theorem w_X6_royaltyOf_b106 (C0 : zCx p l e R s m args below meth c D B0 14 "FranchiseLedgerModel" cX6_royaltyOf E 2 82 (Option.some Jvm.ClassFile.FieldType.long) "royaltyOf") {r : Int64} {h' : zH} {k17 : Nat → Int32 → Int64 → Int64 → Int64 → Int64 → Int32 → zH → Option (Int64 × zH)} (hk17 : ∀ (p0 : Nat) (p1 : Int32) (p2 : Int64) (p4 : Int64) (p6 : Int64) (p8 : Int64) (p10 : Int32) (h : zH), k17 p0 p1 p2 p4 p6 p8 p10 h = some (r, h') → zW p l e R s m args below meth c D B0 14 (zEnd D B0 R below args s (zoL r) h') h 17 [(0, .ref p0), (1, .int p1), (2, .long p2), (4, .long p4), (6, .long p6), (8, .long p8), (10, .int p10)] []) {p0 : Nat} {p1 : Int32} {p2 : Int64} {p4 : Int64} {p6 : Int64} {p8 : Int64} {p10 : Int32} {p11 : Int32} {h : zH} (hf : f_X6_royaltyOf_b106 E k17 p0 p1 p2 p4 p6 p8 p10 p11 h = some (r, h')) : zW p l e R s m args below meth c D B0 14 (zEnd D B0 R below args s (zoL r) h') h 106 [(0, .ref p0), (1, .int p1), (2, .long p2), (4, .long p4), (6, .long p6), (8, .long p8), (10, .int p10), (11, .int p11)] [] := by
  unfold f_X6_royaltyOf_b106 at hf
  refine zr_iload C0 dX6_royaltyOf_106 7 rfl ?_
  refine zr_if_eq C0 (tgt := 114) dX6_royaltyOf_108 (by decide) (fun c1 => ?_) (fun c1 => ?_)
  · have hf := zif_t c1 hf
    refine zr_aload_n C0 dX6_royaltyOf_114 rfl 0 rfl ?_
    refine zr_iload_n C0 dX6_royaltyOf_115 rfl 1 rfl ?_
    refine zr_iconst C0 (v := 3) dX6_royaltyOf_116 (by decide) ?_
    refine zr_iload C0 dX6_royaltyOf_117 6 rfl ?_
    refine zr_iadd C0 dX6_royaltyOf_119 ?_
    obtain ⟨_, e2, hf⟩ := zbind hf
    obtain ⟨x5, h3, e4, hf⟩ := zbind2 hf
    refine zr_callV_r C0 cv_X6_168_X6 rfl (zcko e2) (m_X6_ofPlan C0.2.2.2.2.2.2.1 e4) (by decide) (by decide) rfl rfl (Nat.le_of_ble_eq_true rfl) dX6_royaltyOf_120 rfl ?_
    refine zr_lstore (i := 6) (lv' := [(6, .long x5), (0, .ref p0), (1, .int p1), (2, .long p2), (4, .long p4), (8, .long p8), (10, .int p10), (11, .int p11)]) C0 dX6_royaltyOf_123 (by decide) (by first | rfl | simp [zst1, zst2, zcat_rf]) ?_
    refine zr_aload_n C0 dX6_royaltyOf_125 rfl 1 rfl ?_
    refine zr_iload_n C0 dX6_royaltyOf_126 rfl 2 rfl ?_
    refine zr_bipush C0 (v := 7) dX6_royaltyOf_127 (by decide) ?_
    refine zr_iload C0 dX6_royaltyOf_129 6 rfl ?_
    refine zr_iadd C0 dX6_royaltyOf_131 ?_
    obtain ⟨_, e6, hf⟩ := zbind hf
    obtain ⟨x9, h7, e8, hf⟩ := zbind2 hf
    refine zr_callV_r C0 cv_X6_168_X6 rfl (zcko e6) (m_X6_ofPlan C0.2.2.2.2.2.2.1 e8) (by decide) (by decide) rfl rfl (Nat.le_of_ble_eq_true rfl) dX6_royaltyOf_132 rfl ?_
    refine zr_lstore (i := 8) (lv' := [(8, .long x9), (6, .long x5), (0, .ref p0), (1, .int p1), (2, .long p2), (4, .long p4), (10, .int p10), (11, .int p11)]) C0 dX6_royaltyOf_135 (by decide) (by first | rfl | simp [zst1, zst2, zcat_rf]) ?_
    refine zr_sub [2, 3, 4, 5, 1, 0, 6] rfl ?_
    exact w_X6_royaltyOf_b137 C0 hk17 hf
  · have hf := zif_f c1 hf
    refine zr_goto C0 (tgt := 137) dX6_royaltyOf_111 (by decide) ?_
    refine zr_sub [0, 1, 2, 3, 4, 5, 6] rfl ?_
    exact w_X6_royaltyOf_b137 C0 hk17 hf
def f_X6_royaltyOf_b83 (E : zE) (k17 : Nat → Int32 → Int64 → Int64 → Int64 → Int64 → Int32 → zH → Option (Int64 × zH)) (p0 : Nat) (p1 : Int32) (p2 : Int64) (p4 : Int64) (p6 : Int64) (p8 : Int64) (p10 : Int32) (p11 : Int32) (s0 : Int64) (h : zH) : Option (Int64 × zH) :=
  if s0 ≤ p6 then (
    f_X6_royaltyOf_b106 E k17 p0 p1 p2 p4 p6 p8 p10 p11 h
  ) else (
    f_X6_royaltyOf_b106 E k17 p0 p1 p2 (p4 + ((s0 - p6) * p8)) p6 p8 p10 p11 h
  )
theorem w_X6_royaltyOf_b83 (C0 : zCx p l e R s m args below meth c D B0 14 "FranchiseLedgerModel" cX6_royaltyOf E 2 82 (Option.some Jvm.ClassFile.FieldType.long) "royaltyOf") {r : Int64} {h' : zH} {k17 : Nat → Int32 → Int64 → Int64 → Int64 → Int64 → Int32 → zH → Option (Int64 × zH)} (hk17 : ∀ (p0 : Nat) (p1 : Int32) (p2 : Int64) (p4 : Int64) (p6 : Int64) (p8 : Int64) (p10 : Int32) (h : zH), k17 p0 p1 p2 p4 p6 p8 p10 h = some (r, h') → zW p l e R s m args below meth c D B0 14 (zEnd D B0 R below args s (zoL r) h') h 17 [(0, .ref p0), (1, .int p1), (2, .long p2), (4, .long p4), (6, .long p6), (8, .long p8), (10, .int p10)] []) {p0 : Nat} {p1 : Int32} {p2 : Int64} {p4 : Int64} {p6 : Int64} {p8 : Int64} {p10 : Int32} {p11 : Int32} {s0 : Int64} {h : zH} (hf : f_X6_royaltyOf_b83 E k17 p0 p1 p2 p4 p6 p8 p10 p11 s0 h = some (r, h')) : zW p l e R s m args below meth c D B0 14 (zEnd D B0 R below args s (zoL r) h') h 83 [(0, .ref p0), (1, .int p1), (2, .long p2), (4, .long p4), (6, .long p6), (8, .long p8), (10, .int p10), (11, .int p11)] [.long s0] := by
  unfold f_X6_royaltyOf_b83 at hf
  refine zr_lstore (i := 12) (lv' := [(12, .long s0), (0, .ref p0), (1, .int p1), (2, .long p2), (4, .long p4), (6, .long p6), (8, .long p8), (10, .int p10), (11, .int p11)]) C0 dX6_royaltyOf_83 (by decide) (by first | rfl | simp [zst1, zst2, zcat_rf]) ?_
  refine zr_lload C0 dX6_royaltyOf_85 0 rfl ?_
  refine zr_lload C0 dX6_royaltyOf_87 5 rfl ?_
  refine zr_lcmp C0 dX6_royaltyOf_89 ?_
  refine zr_if_le C0 (tgt := 106) dX6_royaltyOf_90 (by decide) (fun c1 => ?_) (fun c1 => ?_)
  · have hf := zif_t (zl_le.mp c1) hf
    refine zr_sub [1, 2, 3, 4, 5, 6, 7, 8] rfl ?_
    exact w_X6_royaltyOf_b106 C0 hk17 hf
  · have hf := zif_f (zl_len.mp c1) hf
    refine zr_lload C0 dX6_royaltyOf_93 4 rfl ?_
    refine zr_lload C0 dX6_royaltyOf_95 0 rfl ?_
    refine zr_lload C0 dX6_royaltyOf_97 5 rfl ?_
    refine zr_lsub C0 dX6_royaltyOf_99 ?_
    refine zr_lload C0 dX6_royaltyOf_100 6 rfl ?_
    refine zr_lmul C0 dX6_royaltyOf_102 ?_
    refine zr_ladd C0 dX6_royaltyOf_103 ?_
    refine zr_lstore (i := 4) (lv' := [(4, .long (p4 + ((s0 - p6) * p8))), (12, .long s0), (0, .ref p0), (1, .int p1), (2, .long p2), (6, .long p6), (8, .long p8), (10, .int p10), (11, .int p11)]) C0 dX6_royaltyOf_104 (by decide) (by first | rfl | simp [zst1, zst2, zcat_rf]) ?_
    refine zr_sub [2, 3, 4, 0, 5, 6, 7, 8] rfl ?_
    exact w_X6_royaltyOf_b106 C0 hk17 hf
def f_X6_royaltyOf_b68 (E : zE) (k17 : Nat → Int32 → Int64 → Int64 → Int64 → Int64 → Int32 → zH → Option (Int64 × zH)) (p0 : Nat) (p1 : Int32) (p2 : Int64) (p4 : Int64) (p6 : Int64) (p8 : Int64) (p10 : Int32) (p11 : Int32) (s0 : Int64) (h : zH) : Option (Int64 × zH) :=
  if p2 ≤ s0 then (
    f_X6_royaltyOf_b83 E k17 p0 p1 p2 p4 p6 p8 p10 p11 p2 h
  ) else (
    f_X6_royaltyOf_b83 E k17 p0 p1 p2 p4 p6 p8 p10 p11 s0 h
  )
theorem w_X6_royaltyOf_b68 (C0 : zCx p l e R s m args below meth c D B0 14 "FranchiseLedgerModel" cX6_royaltyOf E 2 82 (Option.some Jvm.ClassFile.FieldType.long) "royaltyOf") {r : Int64} {h' : zH} {k17 : Nat → Int32 → Int64 → Int64 → Int64 → Int64 → Int32 → zH → Option (Int64 × zH)} (hk17 : ∀ (p0 : Nat) (p1 : Int32) (p2 : Int64) (p4 : Int64) (p6 : Int64) (p8 : Int64) (p10 : Int32) (h : zH), k17 p0 p1 p2 p4 p6 p8 p10 h = some (r, h') → zW p l e R s m args below meth c D B0 14 (zEnd D B0 R below args s (zoL r) h') h 17 [(0, .ref p0), (1, .int p1), (2, .long p2), (4, .long p4), (6, .long p6), (8, .long p8), (10, .int p10)] []) {p0 : Nat} {p1 : Int32} {p2 : Int64} {p4 : Int64} {p6 : Int64} {p8 : Int64} {p10 : Int32} {p11 : Int32} {s0 : Int64} {h : zH} (hf : f_X6_royaltyOf_b68 E k17 p0 p1 p2 p4 p6 p8 p10 p11 s0 h = some (r, h')) : zW p l e R s m args below meth c D B0 14 (zEnd D B0 R below args s (zoL r) h') h 68 [(0, .ref p0), (1, .int p1), (2, .long p2), (4, .long p4), (6, .long p6), (8, .long p8), (10, .int p10), (11, .int p11)] [.long s0] := by
  unfold f_X6_royaltyOf_b68 at hf
  refine zr_lstore (i := 12) (lv' := [(12, .long s0), (0, .ref p0), (1, .int p1), (2, .long p2), (4, .long p4), (6, .long p6), (8, .long p8), (10, .int p10), (11, .int p11)]) C0 dX6_royaltyOf_68 (by decide) (by first | rfl | simp [zst1, zst2, zcat_rf]) ?_
  refine zr_lload C0 dX6_royaltyOf_70 0 rfl ?_
  refine zr_lload_n C0 dX6_royaltyOf_72 rfl 3 rfl ?_
  refine zr_lcmp C0 dX6_royaltyOf_73 ?_
  refine zr_if_ge C0 (tgt := 82) dX6_royaltyOf_74 (by decide) (fun c1 => ?_) (fun c1 => ?_)
  · have hf := zif_t (zl_ge.mp c1) hf
    refine zr_lload_n C0 dX6_royaltyOf_82 rfl 3 rfl ?_
    refine zr_sub [1, 2, 3, 4, 5, 6, 7, 8] rfl ?_
    exact w_X6_royaltyOf_b83 C0 hk17 hf
  · have hf := zif_f (zl_gen.mp c1) hf
    refine zr_lload C0 dX6_royaltyOf_77 0 rfl ?_
    refine zr_goto C0 (tgt := 83) dX6_royaltyOf_79 (by decide) ?_
    refine zr_sub [1, 2, 3, 4, 5, 6, 7, 8] rfl ?_
    exact w_X6_royaltyOf_b83 C0 hk17 hf
def f_X6_royaltyOf_b48 (E : zE) (k17 : Nat → Int32 → Int64 → Int64 → Int64 → Int64 → Int32 → zH → Option (Int64 × zH)) (p0 : Nat) (p1 : Int32) (p2 : Int64) (p4 : Int64) (p6 : Int64) (p8 : Int64) (p10 : Int32) (s0 : Int32) (h : zH) : Option (Int64 × zH) :=
  if s0 = 0 then (
    (cko h p0 1).bind fun _ =>
    bnd2 (f_X6_ofPlan E p0 p1 ((3 : Int32) + p10) h) fun x5 h3 =>
    f_X6_royaltyOf_b68 E k17 p0 p1 p2 p4 p6 p8 p10 s0 x5 h3
  ) else (
    f_X6_royaltyOf_b68 E k17 p0 p1 p2 p4 p6 p8 p10 s0 p2 h
  )
theorem w_X6_royaltyOf_b48 (C0 : zCx p l e R s m args below meth c D B0 14 "FranchiseLedgerModel" cX6_royaltyOf E 2 82 (Option.some Jvm.ClassFile.FieldType.long) "royaltyOf") {r : Int64} {h' : zH} {k17 : Nat → Int32 → Int64 → Int64 → Int64 → Int64 → Int32 → zH → Option (Int64 × zH)} (hk17 : ∀ (p0 : Nat) (p1 : Int32) (p2 : Int64) (p4 : Int64) (p6 : Int64) (p8 : Int64) (p10 : Int32) (h : zH), k17 p0 p1 p2 p4 p6 p8 p10 h = some (r, h') → zW p l e R s m args below meth c D B0 14 (zEnd D B0 R below args s (zoL r) h') h 17 [(0, .ref p0), (1, .int p1), (2, .long p2), (4, .long p4), (6, .long p6), (8, .long p8), (10, .int p10)] []) {p0 : Nat} {p1 : Int32} {p2 : Int64} {p4 : Int64} {p6 : Int64} {p8 : Int64} {p10 : Int32} {s0 : Int32} {h : zH} (hf : f_X6_royaltyOf_b48 E k17 p0 p1 p2 p4 p6 p8 p10 s0 h = some (r, h')) : zW p l e R s m args below meth c D B0 14 (zEnd D B0 R below args s (zoL r) h') h 48 [(0, .ref p0), (1, .int p1), (2, .long p2), (4, .long p4), (6, .long p6), (8, .long p8), (10, .int p10)] [.int s0] := by
  unfold f_X6_royaltyOf_b48 at hf
  refine zr_istore (i := 11) (lv' := [(11, .int s0), (0, .ref p0), (1, .int p1), (2, .long p2), (4, .long p4), (6, .long p6), (8, .long p8), (10, .int p10)]) C0 dX6_royaltyOf_48 (by decide) (by first | rfl | simp [zst1, zst2, zcat_rf]) ?_
  refine zr_iload C0 dX6_royaltyOf_50 0 rfl ?_
  refine zr_if_eq C0 (tgt := 59) dX6_royaltyOf_52 (by decide) (fun c1 => ?_) (fun c1 => ?_)
  · have hf := zif_t c1 hf
    refine zr_aload_n C0 dX6_royaltyOf_59 rfl 1 rfl ?_
    refine zr_iload_n C0 dX6_royaltyOf_60 rfl 2 rfl ?_
    refine zr_iconst C0 (v := 3) dX6_royaltyOf_61 (by decide) ?_
    refine zr_iload C0 dX6_royaltyOf_62 7 rfl ?_
    refine zr_iadd C0 dX6_royaltyOf_64 ?_
    obtain ⟨_, e2, hf⟩ := zbind hf
    obtain ⟨x5, h3, e4, hf⟩ := zbind2 hf
    refine zr_callV_r C0 cv_X6_168_X6 rfl (zcko e2) (m_X6_ofPlan C0.2.2.2.2.2.2.1 e4) (by decide) (by decide) rfl rfl (Nat.le_of_ble_eq_true rfl) dX6_royaltyOf_65 rfl ?_
    refine zr_sub [1, 2, 3, 4, 5, 6, 7, 0] rfl ?_
    exact w_X6_royaltyOf_b68 C0 hk17 hf
  · have hf := zif_f c1 hf
    refine zr_lload_n C0 dX6_royaltyOf_55 rfl 3 rfl ?_
    refine zr_goto C0 (tgt := 68) dX6_royaltyOf_56 (by decide) ?_
    refine zr_sub [1, 2, 3, 4, 5, 6, 7, 0] rfl ?_
    exact w_X6_royaltyOf_b68 C0 hk17 hf
def f_X6_royaltyOf_l17 (E : zE) : Nat → Nat → Int32 → Int64 → Int64 → Int64 → Int64 → Int32 → zH → Option (Int64 × zH)
  | 0, _, _, _, _, _, _, _, _ => none
  | n + 1, p0, p1, p2, p4, p6, p8, p10, h =>
    (cko h p0 1).bind fun _ =>
    bnd2 (f_X6_ofPlan E p0 p1 (2 : Int32) h) fun x4 h2 =>
    if x4 < (p10.toInt64) then (
      bnd2 (f_X6_half E p4 h2) fun x8 h6 =>
      some (x8, h6)
    ) else (
      (cko h2 p0 1).bind fun _ =>
      bnd2 (f_X6_ofPlan E p0 p1 (2 : Int32) h2) fun x12 h10 =>
      if (p10.toInt64) = x12 then (
        f_X6_royaltyOf_b48 E (f_X6_royaltyOf_l17 E n) p0 p1 p2 p4 p6 p8 p10 (1 : Int32) h10
      ) else (
        f_X6_royaltyOf_b48 E (f_X6_royaltyOf_l17 E n) p0 p1 p2 p4 p6 p8 p10 (0 : Int32) h10
      )
    )
theorem w_X6_royaltyOf_l17 (C0 : zCx p l e R s m args below meth c D B0 14 "FranchiseLedgerModel" cX6_royaltyOf E 2 82 (Option.some Jvm.ClassFile.FieldType.long) "royaltyOf") {r : Int64} {h' : zH} : ∀ (n : Nat) (p0 : Nat) (p1 : Int32) (p2 : Int64) (p4 : Int64) (p6 : Int64) (p8 : Int64) (p10 : Int32) (h : zH), f_X6_royaltyOf_l17 E n p0 p1 p2 p4 p6 p8 p10 h = some (r, h') → zW p l e R s m args below meth c D B0 14 (zEnd D B0 R below args s (zoL r) h') h 17 [(0, .ref p0), (1, .int p1), (2, .long p2), (4, .long p4), (6, .long p6), (8, .long p8), (10, .int p10)] [] := by
  intro n
  induction n with
  | zero =>
    intro p0 p1 p2 p4 p6 p8 p10 h hf
    unfold f_X6_royaltyOf_l17 at hf
    cases hf
  | succ n ih =>
    intro p0 p1 p2 p4 p6 p8 p10 h hf
    unfold f_X6_royaltyOf_l17 at hf
    refine zr_iload C0 dX6_royaltyOf_17 6 rfl ?_
    refine zr_i2l C0 dX6_royaltyOf_19 ?_
    refine zr_aload_n C0 dX6_royaltyOf_20 rfl 0 rfl ?_
    refine zr_iload_n C0 dX6_royaltyOf_21 rfl 1 rfl ?_
    refine zr_iconst C0 (v := 2) dX6_royaltyOf_22 (by decide) ?_
    obtain ⟨_, e1, hf⟩ := zbind hf
    obtain ⟨x4, h2, e3, hf⟩ := zbind2 hf
    refine zr_callV_r C0 cv_X6_168_X6 rfl (zcko e1) (m_X6_ofPlan C0.2.2.2.2.2.2.1 e3) (by decide) (by decide) rfl rfl (Nat.le_of_ble_eq_true rfl) dX6_royaltyOf_23 rfl ?_
    refine zr_lcmp C0 dX6_royaltyOf_26 ?_
    refine zr_if_gt C0 (tgt := 143) dX6_royaltyOf_27 (by decide) (fun c5 => ?_) (fun c5 => ?_)
    · have hf := zif_t (zl_gt.mp c5) hf
      refine zr_lload C0 dX6_royaltyOf_143 3 rfl ?_
      obtain ⟨x8, h6, e7, hf⟩ := zbind2 hf
      refine zr_callS_r C0 cv_X6_164 (m_X6_half C0.2.2.2.2.2.2.1 e7) (by decide) (by decide) rfl rfl (Nat.le_of_ble_eq_true rfl) dX6_royaltyOf_145 rfl ?_
      refine zretW hf ?_
      exact zr_lret C0 rfl dX6_royaltyOf_148 rfl
    · have hf := zif_f (zl_gtn.mp c5) hf
      refine zr_iload C0 dX6_royaltyOf_30 6 rfl ?_
      refine zr_i2l C0 dX6_royaltyOf_32 ?_
      refine zr_aload_n C0 dX6_royaltyOf_33 rfl 0 rfl ?_
      refine zr_iload_n C0 dX6_royaltyOf_34 rfl 1 rfl ?_
      refine zr_iconst C0 (v := 2) dX6_royaltyOf_35 (by decide) ?_
      obtain ⟨_, e9, hf⟩ := zbind hf
      obtain ⟨x12, h10, e11, hf⟩ := zbind2 hf
      refine zr_callV_r C0 cv_X6_168_X6 rfl (zcko e9) (m_X6_ofPlan C0.2.2.2.2.2.2.1 e11) (by decide) (by decide) rfl rfl (Nat.le_of_ble_eq_true rfl) dX6_royaltyOf_36 rfl ?_
      refine zr_lcmp C0 dX6_royaltyOf_39 ?_
      refine zr_if_ne C0 (tgt := 47) dX6_royaltyOf_40 (by decide) (fun c13 => ?_) (fun c13 => ?_)
      · have hf := zif_f (zl_ne.mp c13) hf
        refine zr_iconst C0 (v := 0) dX6_royaltyOf_47 (by decide) ?_
        exact w_X6_royaltyOf_b48 C0 ih hf
      · have hf := zif_t (zl_nen.mp c13) hf
        refine zr_iconst C0 (v := 1) dX6_royaltyOf_43 (by decide) ?_
        refine zr_goto C0 (tgt := 48) dX6_royaltyOf_44 (by decide) ?_
        exact w_X6_royaltyOf_b48 C0 ih hf
def f_X6_royaltyOf_b0 (E : zE) (p0 : Nat) (p1 : Int32) (p2 : Int64) (h : zH) : Option (Int64 × zH) :=
  (cko h p0 1).bind fun _ =>
  bnd2 (f_X6_ofPlan E p0 p1 (1 : Int32) h) fun x4 h2 =>
  f_X6_royaltyOf_l17 E E.1 p0 p1 p2 (0 : Int64) (0 : Int64) x4 (0 : Int32) h2
theorem w_X6_royaltyOf_b0 (C0 : zCx p l e R s m args below meth c D B0 14 "FranchiseLedgerModel" cX6_royaltyOf E 2 82 (Option.some Jvm.ClassFile.FieldType.long) "royaltyOf") {r : Int64} {h' : zH} {p0 : Nat} {p1 : Int32} {p2 : Int64} {h : zH} (hf : f_X6_royaltyOf_b0 E p0 p1 p2 h = some (r, h')) : zW p l e R s m args below meth c D B0 14 (zEnd D B0 R below args s (zoL r) h') h 0 [(0, .ref p0), (1, .int p1), (2, .long p2)] [] := by
  unfold f_X6_royaltyOf_b0 at hf
  refine zr_lconst C0 (v := 0) dX6_royaltyOf_0 (by decide) ?_
  refine zr_lstore (i := 4) (lv' := [(4, .long (0 : Int64)), (0, .ref p0), (1, .int p1), (2, .long p2)]) C0 dX6_royaltyOf_1 (by decide) (by first | rfl | simp [zst1, zst2, zcat_rf]) ?_
  refine zr_lconst C0 (v := 0) dX6_royaltyOf_3 (by decide) ?_
  refine zr_lstore (i := 6) (lv' := [(6, .long (0 : Int64)), (4, .long (0 : Int64)), (0, .ref p0), (1, .int p1), (2, .long p2)]) C0 dX6_royaltyOf_4 (by decide) (by first | rfl | simp [zst1, zst2, zcat_rf]) ?_
  refine zr_aload_n C0 dX6_royaltyOf_6 rfl 2 rfl ?_
  refine zr_iload_n C0 dX6_royaltyOf_7 rfl 3 rfl ?_
  refine zr_iconst C0 (v := 1) dX6_royaltyOf_8 (by decide) ?_
  obtain ⟨_, e1, hf⟩ := zbind hf
  obtain ⟨x4, h2, e3, hf⟩ := zbind2 hf
  refine zr_callV_r C0 cv_X6_168_X6 rfl (zcko e1) (m_X6_ofPlan C0.2.2.2.2.2.2.1 e3) (by decide) (by decide) rfl rfl (Nat.le_of_ble_eq_true rfl) dX6_royaltyOf_9 rfl ?_
  refine zr_lstore (i := 8) (lv' := [(8, .long x4), (6, .long (0 : Int64)), (4, .long (0 : Int64)), (0, .ref p0), (1, .int p1), (2, .long p2)]) C0 dX6_royaltyOf_12 (by decide) (by first | rfl | simp [zst1, zst2, zcat_rf]) ?_
  refine zr_iconst C0 (v := 0) dX6_royaltyOf_14 (by decide) ?_
  refine zr_istore (i := 10) (lv' := [(10, .int (0 : Int32)), (8, .long x4), (6, .long (0 : Int64)), (4, .long (0 : Int64)), (0, .ref p0), (1, .int p1), (2, .long p2)]) C0 dX6_royaltyOf_15 (by decide) (by first | rfl | simp [zst1, zst2, zcat_rf]) ?_
  refine zr_sub [4, 5, 6, 3, 2, 1, 0] rfl ?_
  exact w_X6_royaltyOf_l17 C0 _ _ _ _ _ _ _ _ _ hf
def f_X6_royaltyOf (E : zE) (p0 : Nat) (p1 : Int32) (p2 : Int64) (h : zH) : Option (Int64 × zH) := f_X6_royaltyOf_b0 E p0 p1 p2 h
theorem m_X6_royaltyOf {l : Launch} (hst : l.stackTraces = false) {D : zD} {B0 : Nat} {E : zE} {p0 : Nat} {p1 : Int32} {p2 : Int64} {h h' : zH} {r : Int64} (hf : f_X6_royaltyOf E p0 p1 p2 h = some (r, h')) : zMet l yX6_royaltyOf (ws_ yX6_royaltyOf cX6_royaltyOf 14 (Option.some Jvm.ClassFile.FieldType.long)) 2 82 D B0 E [.ref p0, .int p1, .long p2] h (zoL r) h' := by
  unfold f_X6_royaltyOf at hf
  refine zMet_of hst (by decide +kernel) rfl rfl (Nat.le_of_ble_eq_true rfl) (fun p e R s m below meth c C0 hno => ?_)
  show zW _ _ _ _ _ _ _ _ _ _ _ _ _ _ _ _ [(0, .ref p0), (1, .int p1), (2, .long p2)] []
  exact w_X6_royaltyOf_b0 C0 hf
def f_X6_royalty_b60 (E : zE) (s0 : Int64) (h : zH) : Option (Int64 × zH) :=
  some (s0, h)
theorem w_X6_royalty_b60 (C0 : zCx p l e R s m args below meth c D B0 4 "FranchiseLedgerModel" cX6_royalty E 3 115 (Option.some Jvm.ClassFile.FieldType.long) "royalty") {r : Int64} {h' : zH} {s0 : Int64} {h : zH} (hf : f_X6_royalty_b60 E s0 h = some (r, h')) : zW p l e R s m args below meth c D B0 4 (zEnd D B0 R below args s (zoL r) h') h 60 [] [.long s0] := by
  unfold f_X6_royalty_b60 at hf
  refine zretW hf ?_
  exact zr_lret C0 rfl dX6_royalty_60 rfl
def f_X6_royalty_b50 (E : zE) (h : zH) : Option (Int64 × zH) :=
  f_X6_royalty_b60 E (0 : Int64) h
theorem w_X6_royalty_b50 (C0 : zCx p l e R s m args below meth c D B0 4 "FranchiseLedgerModel" cX6_royalty E 3 115 (Option.some Jvm.ClassFile.FieldType.long) "royalty") {r : Int64} {h' : zH} {h : zH} (hf : f_X6_royalty_b50 E  h = some (r, h')) : zW p l e R s m args below meth c D B0 4 (zEnd D B0 R below args s (zoL r) h') h 50 [] [] := by
  unfold f_X6_royalty_b50 at hf
  refine zr_lconst C0 (v := 0) dX6_royalty_50 (by decide) ?_
  refine zr_goto C0 (tgt := 60) dX6_royalty_51 (by decide) ?_
  exact w_X6_royalty_b60 C0 hf
def f_X6_royalty_b43 (E : zE) (p0 : Nat) (p1 : Int32) (p2 : Int64) (s0 : Nat) (s1 : Int32) (h : zH) : Option (Int64 × zH) :=
  (cko h s0 1).bind fun _ =>
  bnd2 (f_X6_throwsIf E s0 s1 (2 : Int32) h) fun x4 h2 =>
  if x4 = 0 then (
    (cko h2 p0 1).bind fun _ =>
    bnd2 (f_X6_royaltyOf E p0 p1 p2 h2) fun x9 h7 =>
    f_X6_royalty_b60 E x9 h7
  ) else (
    f_X6_royalty_b50 E  h2
  )
theorem w_X6_royalty_b43 (C0 : zCx p l e R s m args below meth c D B0 4 "FranchiseLedgerModel" cX6_royalty E 3 115 (Option.some Jvm.ClassFile.FieldType.long) "royalty") {r : Int64} {h' : zH} {p0 : Nat} {p1 : Int32} {p2 : Int64} {s0 : Nat} {s1 : Int32} {h : zH} (hf : f_X6_royalty_b43 E p0 p1 p2 s0 s1 h = some (r, h')) : zW p l e R s m args below meth c D B0 4 (zEnd D B0 R below args s (zoL r) h') h 43 [(0, .ref p0), (1, .int p1), (2, .long p2)] [.int s1, .ref s0] := by
  unfold f_X6_royalty_b43 at hf
  refine zr_iconst C0 (v := 2) dX6_royalty_43 (by decide) ?_
  obtain ⟨_, e1, hf⟩ := zbind hf
  obtain ⟨x4, h2, e3, hf⟩ := zbind2 hf
  refine zr_callV_r C0 cv_X6_81_X6 rfl (zcko e1) (m_X6_throwsIf C0.2.2.2.2.2.2.1 e3) (by decide) (by decide) rfl rfl (Nat.le_of_ble_eq_true rfl) dX6_royalty_44 rfl ?_
  refine zr_if_eq C0 (tgt := 54) dX6_royalty_47 (by decide) (fun c5 => ?_) (fun c5 => ?_)
  · have hf := zif_t c5 hf
    refine zr_aload_n C0 dX6_royalty_54 rfl 0 rfl ?_
    refine zr_iload_n C0 dX6_royalty_55 rfl 1 rfl ?_
    refine zr_lload_n C0 dX6_royalty_56 rfl 2 rfl ?_
    obtain ⟨_, e6, hf⟩ := zbind hf
    obtain ⟨x9, h7, e8, hf⟩ := zbind2 hf
    refine zr_callV_r C0 cv_X6_176_X6 rfl (zcko e6) (m_X6_royaltyOf C0.2.2.2.2.2.2.1 e8) (by decide) (by decide) rfl rfl (Nat.le_of_ble_eq_true rfl) dX6_royalty_57 rfl ?_
    refine zr_sub [] rfl ?_
    exact w_X6_royalty_b60 C0 hf
  · have hf := zif_f c5 hf
    refine zr_sub [] rfl ?_
    exact w_X6_royalty_b50 C0 hf
def f_X6_royalty_b19 (E : zE) (p0 : Nat) (p1 : Int32) (p2 : Int64) (s0 : Nat) (s1 : Int32) (h : zH) : Option (Int64 × zH) :=
  (cko h s0 1).bind fun _ =>
  bnd2 (f_X6_throwsIf E s0 s1 (1 : Int32) h) fun x4 h2 =>
  if x4 = 0 then (
    bnd2 (f_X6_inRange E p2 (0 : Int64) (1000000000 : Int64) h2) fun x8 h6 =>
    if x8 = 0 then (
      f_X6_royalty_b43 E p0 p1 p2 p0 (1 : Int32) h6
    ) else (
      f_X6_royalty_b43 E p0 p1 p2 p0 (0 : Int32) h6
    )
  ) else (
    f_X6_royalty_b50 E  h2
  )
theorem w_X6_royalty_b19 (C0 : zCx p l e R s m args below meth c D B0 4 "FranchiseLedgerModel" cX6_royalty E 3 115 (Option.some Jvm.ClassFile.FieldType.long) "royalty") {r : Int64} {h' : zH} {p0 : Nat} {p1 : Int32} {p2 : Int64} {s0 : Nat} {s1 : Int32} {h : zH} (hf : f_X6_royalty_b19 E p0 p1 p2 s0 s1 h = some (r, h')) : zW p l e R s m args below meth c D B0 4 (zEnd D B0 R below args s (zoL r) h') h 19 [(0, .ref p0), (1, .int p1), (2, .long p2)] [.int s1, .ref s0] := by
  unfold f_X6_royalty_b19 at hf
  refine zr_iconst C0 (v := 1) dX6_royalty_19 (by decide) ?_
  obtain ⟨_, e1, hf⟩ := zbind hf
  obtain ⟨x4, h2, e3, hf⟩ := zbind2 hf
  refine zr_callV_r C0 cv_X6_81_X6 rfl (zcko e1) (m_X6_throwsIf C0.2.2.2.2.2.2.1 e3) (by decide) (by decide) rfl rfl (Nat.le_of_ble_eq_true rfl) dX6_royalty_20 rfl ?_
  refine zr_if_ne C0 (tgt := 50) dX6_royalty_23 (by decide) (fun c5 => ?_) (fun c5 => ?_)
  · have hf := zif_f c5 hf
    refine zr_sub [] rfl ?_
    exact w_X6_royalty_b50 C0 hf
  · have hf := zif_t c5 hf
    refine zr_aload_n C0 dX6_royalty_26 rfl 0 rfl ?_
    refine zr_lload_n C0 dX6_royalty_27 rfl 2 rfl ?_
    refine zr_lconst C0 (v := 0) dX6_royalty_28 (by decide) ?_
    refine zr_ldc2 C0 (v := 1000000000) q2795 dX6_royalty_29 ?_
    obtain ⟨x8, h6, e7, hf⟩ := zbind2 hf
    refine zr_callS_r C0 cv_X6_53 (m_X6_inRange C0.2.2.2.2.2.2.1 e7) (by decide) (by decide) rfl rfl (Nat.le_of_ble_eq_true rfl) dX6_royalty_32 rfl ?_
    refine zr_if_ne C0 (tgt := 42) dX6_royalty_35 (by decide) (fun c9 => ?_) (fun c9 => ?_)
    · have hf := zif_f c9 hf
      refine zr_iconst C0 (v := 0) dX6_royalty_42 (by decide) ?_
      exact w_X6_royalty_b43 C0 hf
    · have hf := zif_t c9 hf
      refine zr_iconst C0 (v := 1) dX6_royalty_38 (by decide) ?_
      refine zr_goto C0 (tgt := 43) dX6_royalty_39 (by decide) ?_
      exact w_X6_royalty_b43 C0 hf
def f_X6_royalty_b0 (E : zE) (p0 : Nat) (p1 : Int32) (p2 : Int64) (h : zH) : Option (Int64 × zH) :=
  (pF h p0 1 2 (.int (0 : Int32))).bind fun h1 =>
  (cko h1 p0 1).bind fun _ =>
  bnd2 (f_X6_isPlan E p0 p1 h1) fun x6 h4 =>
  if x6 = 0 then (
    f_X6_royalty_b19 E p0 p1 p2 p0 (1 : Int32) h4
  ) else (
    f_X6_royalty_b19 E p0 p1 p2 p0 (0 : Int32) h4
  )
theorem w_X6_royalty_b0 (C0 : zCx p l e R s m args below meth c D B0 4 "FranchiseLedgerModel" cX6_royalty E 3 115 (Option.some Jvm.ClassFile.FieldType.long) "royalty") {r : Int64} {h' : zH} {p0 : Nat} {p1 : Int32} {p2 : Int64} {h : zH} (hf : f_X6_royalty_b0 E p0 p1 p2 h = some (r, h')) : zW p l e R s m args below meth c D B0 4 (zEnd D B0 R below args s (zoL r) h') h 0 [(0, .ref p0), (1, .int p1), (2, .long p2)] [] := by
  unfold f_X6_royalty_b0 at hf
  refine zr_aload_n C0 dX6_royalty_0 rfl 0 rfl ?_
  refine zr_iconst C0 (v := 0) dX6_royalty_1 (by decide) ?_
  obtain ⟨h1, e2, hf⟩ := zbind hf
  refine zr_put C0 pl_X6_50_X6 dX6_royalty_2 (fun h => by cases h) rfl rfl e2 ?_
  refine zr_aload_n C0 dX6_royalty_5 rfl 0 rfl ?_
  refine zr_aload_n C0 dX6_royalty_6 rfl 0 rfl ?_
  refine zr_iload_n C0 dX6_royalty_7 rfl 1 rfl ?_
  obtain ⟨_, e3, hf⟩ := zbind hf
  obtain ⟨x6, h4, e5, hf⟩ := zbind2 hf
  refine zr_callV_r C0 cv_X6_171_X6 rfl (zcko e3) (m_X6_isPlan C0.2.2.2.2.2.2.1 e5) (by decide) (by decide) rfl rfl (Nat.le_of_ble_eq_true rfl) dX6_royalty_8 rfl ?_
  refine zr_if_ne C0 (tgt := 18) dX6_royalty_11 (by decide) (fun c7 => ?_) (fun c7 => ?_)
  · have hf := zif_f c7 hf
    refine zr_iconst C0 (v := 0) dX6_royalty_18 (by decide) ?_
    exact w_X6_royalty_b19 C0 hf
  · have hf := zif_t c7 hf
    refine zr_iconst C0 (v := 1) dX6_royalty_14 (by decide) ?_
    refine zr_goto C0 (tgt := 19) dX6_royalty_15 (by decide) ?_
    exact w_X6_royalty_b19 C0 hf
def f_X6_royalty (E : zE) (p0 : Nat) (p1 : Int32) (p2 : Int64) (h : zH) : Option (Int64 × zH) := f_X6_royalty_b0 E p0 p1 p2 h
theorem m_X6_royalty {l : Launch} (hst : l.stackTraces = false) {D : zD} {B0 : Nat} {E : zE} {p0 : Nat} {p1 : Int32} {p2 : Int64} {h h' : zH} {r : Int64} (hf : f_X6_royalty E p0 p1 p2 h = some (r, h')) : zMet l yX6_royalty (ws_ yX6_royalty cX6_royalty 4 (Option.some Jvm.ClassFile.FieldType.long)) 3 115 D B0 E [.ref p0, .int p1, .long p2] h (zoL r) h' := by
  unfold f_X6_royalty at hf
  refine zMet_of hst (by decide +kernel) rfl rfl (Nat.le_of_ble_eq_true rfl) (fun p e R s m below meth c C0 hno => ?_)
  show zW _ _ _ _ _ _ _ _ _ _ _ _ _ _ _ _ [(0, .ref p0), (1, .int p1), (2, .long p2)] []
  exact w_X6_royalty_b0 C0 hf
def f_X6_planNow_b0 (E : zE) (p0 : Nat) (p1 : Int32) (h : zH) : Option (Int32 × zH) :=
  (cko h p0 1).bind fun _ =>
  bnd2 (f_X6_of E p0 p1 (1 : Int32) h) fun x4 h2 =>
  some ((x4.toInt32), h2)
theorem w_X6_planNow_b0 (C0 : zCx p l e R s m args below meth c D B0 2 "FranchiseLedgerModel" cX6_planNow E 2 82 (Option.some Jvm.ClassFile.FieldType.int) "planNow") {r : Int32} {h' : zH} {p0 : Nat} {p1 : Int32} {h : zH} (hf : f_X6_planNow_b0 E p0 p1 h = some (r, h')) : zW p l e R s m args below meth c D B0 2 (zEnd D B0 R below args s (zoI r) h') h 0 [(0, .ref p0), (1, .int p1)] [] := by
  unfold f_X6_planNow_b0 at hf
  refine zr_aload_n C0 dX6_planNow_0 rfl 0 rfl ?_
  refine zr_iload_n C0 dX6_planNow_1 rfl 1 rfl ?_
  refine zr_iconst C0 (v := 1) dX6_planNow_2 (by decide) ?_
  obtain ⟨_, e1, hf⟩ := zbind hf
  obtain ⟨x4, h2, e3, hf⟩ := zbind2 hf
  refine zr_callV_r C0 cv_X6_63_X6 rfl (zcko e1) (m_X6_of C0.2.2.2.2.2.2.1 e3) (by decide) (by decide) rfl rfl (Nat.le_of_ble_eq_true rfl) dX6_planNow_3 rfl ?_
  refine zr_l2i C0 dX6_planNow_6 ?_
  refine zretW hf ?_
  exact zr_iret C0 (ty := .int) rfl rfl dX6_planNow_7 rfl
def f_X6_planNow (E : zE) (p0 : Nat) (p1 : Int32) (h : zH) : Option (Int32 × zH) := f_X6_planNow_b0 E p0 p1 h
theorem m_X6_planNow {l : Launch} (hst : l.stackTraces = false) {D : zD} {B0 : Nat} {E : zE} {p0 : Nat} {p1 : Int32} {h h' : zH} {r : Int32} (hf : f_X6_planNow E p0 p1 h = some (r, h')) : zMet l yX6_planNow (ws_ yX6_planNow cX6_planNow 2 (Option.some Jvm.ClassFile.FieldType.int)) 2 82 D B0 E [.ref p0, .int p1] h (zoI r) h' := by
  unfold f_X6_planNow at hf
  refine zMet_of hst (by decide +kernel) rfl rfl (Nat.le_of_ble_eq_true rfl) (fun p e R s m below meth c C0 hno => ?_)
  show zW _ _ _ _ _ _ _ _ _ _ _ _ _ _ _ _ [(0, .ref p0), (1, .int p1)] []
  exact w_X6_planNow_b0 C0 hf
def f_X6_planOf_b35 (E : zE) (s0 : Int32) (h : zH) : Option (Int32 × zH) :=
  some (s0, h)
theorem w_X6_planOf_b35 (C0 : zCx p l e R s m args below meth c D B0 2 "FranchiseLedgerModel" cX6_planOf E 3 106 (Option.some Jvm.ClassFile.FieldType.int) "planOf") {r : Int32} {h' : zH} {s0 : Int32} {h : zH} (hf : f_X6_planOf_b35 E s0 h = some (r, h')) : zW p l e R s m args below meth c D B0 2 (zEnd D B0 R below args s (zoI r) h') h 35 [] [.int s0] := by
  unfold f_X6_planOf_b35 at hf
  refine zretW hf ?_
  exact zr_iret C0 (ty := .int) rfl rfl dX6_planOf_35 rfl
def f_X6_planOf_b19 (E : zE) (p0 : Nat) (p1 : Int32) (s0 : Nat) (s1 : Int32) (h : zH) : Option (Int32 × zH) :=
  (cko h s0 1).bind fun _ =>
  bnd2 (f_X6_throwsIf E s0 s1 (1 : Int32) h) fun x4 h2 =>
  if x4 = 0 then (
    (cko h2 p0 1).bind fun _ =>
    bnd2 (f_X6_planNow E p0 p1 h2) fun x9 h7 =>
    f_X6_planOf_b35 E x9 h7
  ) else (
    f_X6_planOf_b35 E (0 : Int32) h2
  )
theorem w_X6_planOf_b19 (C0 : zCx p l e R s m args below meth c D B0 2 "FranchiseLedgerModel" cX6_planOf E 3 106 (Option.some Jvm.ClassFile.FieldType.int) "planOf") {r : Int32} {h' : zH} {p0 : Nat} {p1 : Int32} {s0 : Nat} {s1 : Int32} {h : zH} (hf : f_X6_planOf_b19 E p0 p1 s0 s1 h = some (r, h')) : zW p l e R s m args below meth c D B0 2 (zEnd D B0 R below args s (zoI r) h') h 19 [(0, .ref p0), (1, .int p1)] [.int s1, .ref s0] := by
  unfold f_X6_planOf_b19 at hf
  refine zr_iconst C0 (v := 1) dX6_planOf_19 (by decide) ?_
  obtain ⟨_, e1, hf⟩ := zbind hf
  obtain ⟨x4, h2, e3, hf⟩ := zbind2 hf
  refine zr_callV_r C0 cv_X6_81_X6 rfl (zcko e1) (m_X6_throwsIf C0.2.2.2.2.2.2.1 e3) (by decide) (by decide) rfl rfl (Nat.le_of_ble_eq_true rfl) dX6_planOf_20 rfl ?_
  refine zr_if_eq C0 (tgt := 30) dX6_planOf_23 (by decide) (fun c5 => ?_) (fun c5 => ?_)
  · have hf := zif_t c5 hf
    refine zr_aload_n C0 dX6_planOf_30 rfl 0 rfl ?_
    refine zr_iload_n C0 dX6_planOf_31 rfl 1 rfl ?_
    obtain ⟨_, e6, hf⟩ := zbind hf
    obtain ⟨x9, h7, e8, hf⟩ := zbind2 hf
    refine zr_callV_r C0 cv_X6_180_X6 rfl (zcko e6) (m_X6_planNow C0.2.2.2.2.2.2.1 e8) (by decide) (by decide) rfl rfl (Nat.le_of_ble_eq_true rfl) dX6_planOf_32 rfl ?_
    refine zr_sub [] rfl ?_
    exact w_X6_planOf_b35 C0 hf
  · have hf := zif_f c5 hf
    refine zr_iconst C0 (v := 0) dX6_planOf_26 (by decide) ?_
    refine zr_goto C0 (tgt := 35) dX6_planOf_27 (by decide) ?_
    refine zr_sub [] rfl ?_
    exact w_X6_planOf_b35 C0 hf
def f_X6_planOf_b0 (E : zE) (p0 : Nat) (p1 : Int32) (h : zH) : Option (Int32 × zH) :=
  (pF h p0 1 2 (.int (0 : Int32))).bind fun h1 =>
  (cko h1 p0 1).bind fun _ =>
  bnd2 (f_X6_isFranchisee E p0 p1 h1) fun x6 h4 =>
  if x6 = 0 then (
    f_X6_planOf_b19 E p0 p1 p0 (1 : Int32) h4
  ) else (
    f_X6_planOf_b19 E p0 p1 p0 (0 : Int32) h4
  )
theorem w_X6_planOf_b0 (C0 : zCx p l e R s m args below meth c D B0 2 "FranchiseLedgerModel" cX6_planOf E 3 106 (Option.some Jvm.ClassFile.FieldType.int) "planOf") {r : Int32} {h' : zH} {p0 : Nat} {p1 : Int32} {h : zH} (hf : f_X6_planOf_b0 E p0 p1 h = some (r, h')) : zW p l e R s m args below meth c D B0 2 (zEnd D B0 R below args s (zoI r) h') h 0 [(0, .ref p0), (1, .int p1)] [] := by
  unfold f_X6_planOf_b0 at hf
  refine zr_aload_n C0 dX6_planOf_0 rfl 0 rfl ?_
  refine zr_iconst C0 (v := 0) dX6_planOf_1 (by decide) ?_
  obtain ⟨h1, e2, hf⟩ := zbind hf
  refine zr_put C0 pl_X6_50_X6 dX6_planOf_2 (fun h => by cases h) rfl rfl e2 ?_
  refine zr_aload_n C0 dX6_planOf_5 rfl 0 rfl ?_
  refine zr_aload_n C0 dX6_planOf_6 rfl 0 rfl ?_
  refine zr_iload_n C0 dX6_planOf_7 rfl 1 rfl ?_
  obtain ⟨_, e3, hf⟩ := zbind hf
  obtain ⟨x6, h4, e5, hf⟩ := zbind2 hf
  refine zr_callV_r C0 cv_X6_85_X6 rfl (zcko e3) (m_X6_isFranchisee C0.2.2.2.2.2.2.1 e5) (by decide) (by decide) rfl rfl (Nat.le_of_ble_eq_true rfl) dX6_planOf_8 rfl ?_
  refine zr_if_ne C0 (tgt := 18) dX6_planOf_11 (by decide) (fun c7 => ?_) (fun c7 => ?_)
  · have hf := zif_f c7 hf
    refine zr_iconst C0 (v := 0) dX6_planOf_18 (by decide) ?_
    exact w_X6_planOf_b19 C0 hf
  · have hf := zif_t c7 hf
    refine zr_iconst C0 (v := 1) dX6_planOf_14 (by decide) ?_
    refine zr_goto C0 (tgt := 19) dX6_planOf_15 (by decide) ?_
    exact w_X6_planOf_b19 C0 hf
def f_X6_planOf (E : zE) (p0 : Nat) (p1 : Int32) (h : zH) : Option (Int32 × zH) := f_X6_planOf_b0 E p0 p1 h
theorem m_X6_planOf {l : Launch} (hst : l.stackTraces = false) {D : zD} {B0 : Nat} {E : zE} {p0 : Nat} {p1 : Int32} {h h' : zH} {r : Int32} (hf : f_X6_planOf E p0 p1 h = some (r, h')) : zMet l yX6_planOf (ws_ yX6_planOf cX6_planOf 2 (Option.some Jvm.ClassFile.FieldType.int)) 3 106 D B0 E [.ref p0, .int p1] h (zoI r) h' := by
  unfold f_X6_planOf at hf
  refine zMet_of hst (by decide +kernel) rfl rfl (Nat.le_of_ble_eq_true rfl) (fun p e R s m below meth c C0 hno => ?_)
  show zW _ _ _ _ _ _ _ _ _ _ _ _ _ _ _ _ [(0, .ref p0), (1, .int p1)] []
  exact w_X6_planOf_b0 C0 hf
def f_X6_set_b0 (E : zE) (p0 : Nat) (p1 : Int32) (p2 : Int32) (p3 : Int64) (h : zH) : Option (Unit × zH) :=
  (gR h p0 1 0).bind fun x1 =>
  (sL h x1 (((58 : Int32) + ((16 : Int32) * p1)) + p2) p3).bind fun h3 =>
  some ((), h3)
theorem w_X6_set_b0 (C0 : zCx p l e R s m args below meth c D B0 5 "FranchiseLedgerModel" cX6_set E 1 60 (Option.none : Option Jvm.ClassFile.FieldType) "set") {r : Unit} {h' : zH} {p0 : Nat} {p1 : Int32} {p2 : Int32} {p3 : Int64} {h : zH} (hf : f_X6_set_b0 E p0 p1 p2 p3 h = some (r, h')) : zW p l e R s m args below meth c D B0 5 (zEnd D B0 R below args s (zoV r) h') h 0 [(0, .ref p0), (1, .int p1), (2, .int p2), (3, .long p3)] [] := by
  unfold f_X6_set_b0 at hf
  refine zr_aload_n C0 dX6_set_0 rfl 0 rfl ?_
  obtain ⟨x1, e2, hf⟩ := zbind hf
  refine zr_get C0 fl_X6_9_X6 dX6_set_1 (zgR e2) ?_
  refine zr_bipush C0 (v := 58) dX6_set_4 (by decide) ?_
  refine zr_bipush C0 (v := 16) dX6_set_6 (by decide) ?_
  refine zr_iload_n C0 dX6_set_8 rfl 1 rfl ?_
  refine zr_imul C0 dX6_set_9 ?_
  refine zr_iadd C0 dX6_set_10 ?_
  refine zr_iload_n C0 dX6_set_11 rfl 2 rfl ?_
  refine zr_iadd C0 dX6_set_12 ?_
  refine zr_lload_n C0 dX6_set_13 rfl 3 rfl ?_
  obtain ⟨h3, e4, hf⟩ := zbind hf
  refine zr_last C0 dX6_set_14 e4 ?_
  refine zretW hf ?_
  exact zr_vret C0 rfl dX6_set_15 rfl
def f_X6_set (E : zE) (p0 : Nat) (p1 : Int32) (p2 : Int32) (p3 : Int64) (h : zH) : Option (Unit × zH) := f_X6_set_b0 E p0 p1 p2 p3 h
theorem m_X6_set {l : Launch} (hst : l.stackTraces = false) {D : zD} {B0 : Nat} {E : zE} {p0 : Nat} {p1 : Int32} {p2 : Int32} {p3 : Int64} {h h' : zH} {r : Unit} (hf : f_X6_set E p0 p1 p2 p3 h = some (r, h')) : zMet l yX6_set (ws_ yX6_set cX6_set 5 (Option.none : Option Jvm.ClassFile.FieldType)) 1 60 D B0 E [.ref p0, .int p1, .int p2, .long p3] h (zoV r) h' := by
  unfold f_X6_set at hf
  refine zMet_of hst (by decide +kernel) rfl rfl (Nat.le_of_ble_eq_true rfl) (fun p e R s m below meth c C0 hno => ?_)
  show zW _ _ _ _ _ _ _ _ _ _ _ _ _ _ _ _ [(0, .ref p0), (1, .int p1), (2, .int p2), (3, .long p3)] []
  exact w_X6_set_b0 C0 hf
def f_X6_setPlan_b27 (E : zE) (p0 : Nat) (p1 : Int32) (p2 : Int32) (s0 : Nat) (s1 : Int32) (h : zH) : Option (Int32 × zH) :=
  (cko h s0 1).bind fun _ =>
  bnd2 (f_X6_throwsIf E s0 s1 (1 : Int32) h) fun x4 h2 =>
  if x4 = 0 then (
    (cko h2 p0 1).bind fun _ =>
    bnd2 (f_X6_planNow E p0 p1 h2) fun x9 h7 =>
    (cko h7 p0 1).bind fun _ =>
    bnd2 (f_X6_set E p0 p1 (1 : Int32) (p2.toInt64) h7) fun x13 h11 =>
    some (x9, h11)
  ) else (
    some ((0 : Int32), h2)
  )
theorem w_X6_setPlan_b27 (C0 : zCx p l e R s m args below meth c D B0 4 "FranchiseLedgerModel" cX6_setPlan E 3 106 (Option.some Jvm.ClassFile.FieldType.int) "setPlan") {r : Int32} {h' : zH} {p0 : Nat} {p1 : Int32} {p2 : Int32} {s0 : Nat} {s1 : Int32} {h : zH} (hf : f_X6_setPlan_b27 E p0 p1 p2 s0 s1 h = some (r, h')) : zW p l e R s m args below meth c D B0 4 (zEnd D B0 R below args s (zoI r) h') h 27 [(0, .ref p0), (1, .int p1), (2, .int p2)] [.int s1, .ref s0] := by
  unfold f_X6_setPlan_b27 at hf
  refine zr_iconst C0 (v := 1) dX6_setPlan_27 (by decide) ?_
  obtain ⟨_, e1, hf⟩ := zbind hf
  obtain ⟨x4, h2, e3, hf⟩ := zbind2 hf
  refine zr_callV_r C0 cv_X6_81_X6 rfl (zcko e1) (m_X6_throwsIf C0.2.2.2.2.2.2.1 e3) (by decide) (by decide) rfl rfl (Nat.le_of_ble_eq_true rfl) dX6_setPlan_28 rfl ?_
  refine zr_if_eq C0 (tgt := 36) dX6_setPlan_31 (by decide) (fun c5 => ?_) (fun c5 => ?_)
  · have hf := zif_t c5 hf
    refine zr_aload_n C0 dX6_setPlan_36 rfl 0 rfl ?_
    refine zr_iload_n C0 dX6_setPlan_37 rfl 1 rfl ?_
    obtain ⟨_, e6, hf⟩ := zbind hf
    obtain ⟨x9, h7, e8, hf⟩ := zbind2 hf
    refine zr_callV_r C0 cv_X6_180_X6 rfl (zcko e6) (m_X6_planNow C0.2.2.2.2.2.2.1 e8) (by decide) (by decide) rfl rfl (Nat.le_of_ble_eq_true rfl) dX6_setPlan_38 rfl ?_
    refine zr_istore_n (i := 3) (lv' := [(3, .int x9), (0, .ref p0), (1, .int p1), (2, .int p2)]) C0 dX6_setPlan_41 rfl (by decide) (by first | rfl | simp [zst1, zst2, zcat_rf]) ?_
    refine zr_aload_n C0 dX6_setPlan_42 rfl 1 rfl ?_
    refine zr_iload_n C0 dX6_setPlan_43 rfl 2 rfl ?_
    refine zr_iconst C0 (v := 1) dX6_setPlan_44 (by decide) ?_
    refine zr_iload_n C0 dX6_setPlan_45 rfl 3 rfl ?_
    refine zr_i2l C0 dX6_setPlan_46 ?_
    obtain ⟨_, e10, hf⟩ := zbind hf
    obtain ⟨x13, h11, e12, hf⟩ := zbind2 hf
    refine zr_callV_r C0 cv_X6_183_X6 rfl (zcko e10) (m_X6_set C0.2.2.2.2.2.2.1 e12) (by decide) (by decide) rfl rfl (Nat.le_of_ble_eq_true rfl) dX6_setPlan_47 rfl ?_
    refine zr_iload_n C0 dX6_setPlan_50 rfl 0 rfl ?_
    refine zretW hf ?_
    exact zr_iret C0 (ty := .int) rfl rfl dX6_setPlan_51 rfl
  · have hf := zif_f c5 hf
    refine zr_iconst C0 (v := 0) dX6_setPlan_34 (by decide) ?_
    refine zretW hf ?_
    exact zr_iret C0 (ty := .int) rfl rfl dX6_setPlan_35 rfl
def f_X6_setPlan_b22 (E : zE) (p0 : Nat) (p1 : Int32) (p2 : Int32) (s0 : Nat) (h : zH) : Option (Int32 × zH) :=
  f_X6_setPlan_b27 E p0 p1 p2 s0 (1 : Int32) h
theorem w_X6_setPlan_b22 (C0 : zCx p l e R s m args below meth c D B0 4 "FranchiseLedgerModel" cX6_setPlan E 3 106 (Option.some Jvm.ClassFile.FieldType.int) "setPlan") {r : Int32} {h' : zH} {p0 : Nat} {p1 : Int32} {p2 : Int32} {s0 : Nat} {h : zH} (hf : f_X6_setPlan_b22 E p0 p1 p2 s0 h = some (r, h')) : zW p l e R s m args below meth c D B0 4 (zEnd D B0 R below args s (zoI r) h') h 22 [(0, .ref p0), (1, .int p1), (2, .int p2)] [.ref s0] := by
  unfold f_X6_setPlan_b22 at hf
  refine zr_iconst C0 (v := 1) dX6_setPlan_22 (by decide) ?_
  refine zr_goto C0 (tgt := 27) dX6_setPlan_23 (by decide) ?_
  exact w_X6_setPlan_b27 C0 hf
def f_X6_setPlan_b0 (E : zE) (p0 : Nat) (p1 : Int32) (p2 : Int32) (h : zH) : Option (Int32 × zH) :=
  (pF h p0 1 2 (.int (0 : Int32))).bind fun h1 =>
  (cko h1 p0 1).bind fun _ =>
  bnd2 (f_X6_isFranchisee E p0 p1 h1) fun x6 h4 =>
  if x6 = 0 then (
    f_X6_setPlan_b22 E p0 p1 p2 p0 h4
  ) else (
    (cko h4 p0 1).bind fun _ =>
    bnd2 (f_X6_isPlan E p0 p2 h4) fun x11 h9 =>
    if x11 = 0 then (
      f_X6_setPlan_b22 E p0 p1 p2 p0 h9
    ) else (
      f_X6_setPlan_b27 E p0 p1 p2 p0 (0 : Int32) h9
    )
  )
theorem w_X6_setPlan_b0 (C0 : zCx p l e R s m args below meth c D B0 4 "FranchiseLedgerModel" cX6_setPlan E 3 106 (Option.some Jvm.ClassFile.FieldType.int) "setPlan") {r : Int32} {h' : zH} {p0 : Nat} {p1 : Int32} {p2 : Int32} {h : zH} (hf : f_X6_setPlan_b0 E p0 p1 p2 h = some (r, h')) : zW p l e R s m args below meth c D B0 4 (zEnd D B0 R below args s (zoI r) h') h 0 [(0, .ref p0), (1, .int p1), (2, .int p2)] [] := by
  unfold f_X6_setPlan_b0 at hf
  refine zr_aload_n C0 dX6_setPlan_0 rfl 0 rfl ?_
  refine zr_iconst C0 (v := 0) dX6_setPlan_1 (by decide) ?_
  obtain ⟨h1, e2, hf⟩ := zbind hf
  refine zr_put C0 pl_X6_50_X6 dX6_setPlan_2 (fun h => by cases h) rfl rfl e2 ?_
  refine zr_aload_n C0 dX6_setPlan_5 rfl 0 rfl ?_
  refine zr_aload_n C0 dX6_setPlan_6 rfl 0 rfl ?_
  refine zr_iload_n C0 dX6_setPlan_7 rfl 1 rfl ?_
  obtain ⟨_, e3, hf⟩ := zbind hf
  obtain ⟨x6, h4, e5, hf⟩ := zbind2 hf
  refine zr_callV_r C0 cv_X6_85_X6 rfl (zcko e3) (m_X6_isFranchisee C0.2.2.2.2.2.2.1 e5) (by decide) (by decide) rfl rfl (Nat.le_of_ble_eq_true rfl) dX6_setPlan_8 rfl ?_
  refine zr_if_eq C0 (tgt := 22) dX6_setPlan_11 (by decide) (fun c7 => ?_) (fun c7 => ?_)
  · have hf := zif_t c7 hf
    exact w_X6_setPlan_b22 C0 hf
  · have hf := zif_f c7 hf
    refine zr_aload_n C0 dX6_setPlan_14 rfl 0 rfl ?_
    refine zr_iload_n C0 dX6_setPlan_15 rfl 2 rfl ?_
    obtain ⟨_, e8, hf⟩ := zbind hf
    obtain ⟨x11, h9, e10, hf⟩ := zbind2 hf
    refine zr_callV_r C0 cv_X6_171_X6 rfl (zcko e8) (m_X6_isPlan C0.2.2.2.2.2.2.1 e10) (by decide) (by decide) rfl rfl (Nat.le_of_ble_eq_true rfl) dX6_setPlan_16 rfl ?_
    refine zr_if_ne C0 (tgt := 26) dX6_setPlan_19 (by decide) (fun c12 => ?_) (fun c12 => ?_)
    · have hf := zif_f c12 hf
      refine zr_iconst C0 (v := 0) dX6_setPlan_26 (by decide) ?_
      exact w_X6_setPlan_b27 C0 hf
    · have hf := zif_t c12 hf
      exact w_X6_setPlan_b22 C0 hf
def f_X6_setPlan (E : zE) (p0 : Nat) (p1 : Int32) (p2 : Int32) (h : zH) : Option (Int32 × zH) := f_X6_setPlan_b0 E p0 p1 p2 h
theorem m_X6_setPlan {l : Launch} (hst : l.stackTraces = false) {D : zD} {B0 : Nat} {E : zE} {p0 : Nat} {p1 : Int32} {p2 : Int32} {h h' : zH} {r : Int32} (hf : f_X6_setPlan E p0 p1 p2 h = some (r, h')) : zMet l yX6_setPlan (ws_ yX6_setPlan cX6_setPlan 4 (Option.some Jvm.ClassFile.FieldType.int)) 3 106 D B0 E [.ref p0, .int p1, .int p2] h (zoI r) h' := by
  unfold f_X6_setPlan at hf
  refine zMet_of hst (by decide +kernel) rfl rfl (Nat.le_of_ble_eq_true rfl) (fun p e R s m below meth c C0 hno => ?_)
  show zW _ _ _ _ _ _ _ _ _ _ _ _ _ _ _ _ [(0, .ref p0), (1, .int p1), (2, .int p2)] []
  exact w_X6_setPlan_b0 C0 hf
def f_X6_salesNow_b48 (E : zE) (k5 : Nat → Int32 → Int32 → Int64 → Int32 → zH → Option (Int64 × zH)) (p0 : Nat) (p1 : Int32) (p2 : Int32) (p3 : Int64) (p5 : Int32) (h : zH) : Option (Int64 × zH) :=
  k5 p0 p1 p2 p3 (p5 + 1) h
theorem w_X6_salesNow_b48 (C0 : zCx p l e R s m args below meth c D B0 6 "FranchiseLedgerModel" cX6_salesNow E 2 82 (Option.some Jvm.ClassFile.FieldType.long) "salesNow") {r : Int64} {h' : zH} {k5 : Nat → Int32 → Int32 → Int64 → Int32 → zH → Option (Int64 × zH)} (hk5 : ∀ (p0 : Nat) (p1 : Int32) (p2 : Int32) (p3 : Int64) (p5 : Int32) (h : zH), k5 p0 p1 p2 p3 p5 h = some (r, h') → zW p l e R s m args below meth c D B0 6 (zEnd D B0 R below args s (zoL r) h') h 5 [(0, .ref p0), (1, .int p1), (2, .int p2), (3, .long p3), (5, .int p5)] []) {p0 : Nat} {p1 : Int32} {p2 : Int32} {p3 : Int64} {p5 : Int32} {h : zH} (hf : f_X6_salesNow_b48 E k5 p0 p1 p2 p3 p5 h = some (r, h')) : zW p l e R s m args below meth c D B0 6 (zEnd D B0 R below args s (zoL r) h') h 48 [(0, .ref p0), (1, .int p1), (2, .int p2), (3, .long p3), (5, .int p5)] [] := by
  unfold f_X6_salesNow_b48 at hf
  refine zr_iinc (lv' := [(5, .int (p5 + 1)), (0, .ref p0), (1, .int p1), (2, .int p2), (3, .long p3)]) C0 dX6_salesNow_48 4 rfl rfl (by decide) (by first | rfl | simp [zst1, zst2, zcat_rf]) ?_
  refine zr_goto C0 (tgt := 5) dX6_salesNow_51 (by decide) ?_
  refine zr_sub [1, 2, 3, 4, 0] rfl ?_
  exact hk5 _ _ _ _ _ _ hf
def f_X6_salesNow_l5 (E : zE) : Nat → Nat → Int32 → Int32 → Int64 → Int32 → zH → Option (Int64 × zH)
  | 0, _, _, _, _, _, _ => none
  | n + 1, p0, p1, p2, p3, p5, h =>
    (gR h p0 1 0).bind fun x1 =>
    (dL h x1 (3 : Int32)).bind fun x3 =>
    if x3 ≤ (p5.toInt64) then (
      some (p3, h)
    ) else (
      (cko h p0 1).bind fun _ =>
      bnd2 (f_X6_ofOutlet E p0 p5 (0 : Int32) h) fun x9 h7 =>
      if x9 = (p1.toInt64) then (
        (cko h7 p0 1).bind fun _ =>
        bnd2 (f_X6_ofOutlet E p0 p5 (3 : Int32) h7) fun x14 h12 =>
        f_X6_salesNow_b48 E (f_X6_salesNow_l5 E n) p0 p1 p2 (p3 + ((x14 * (p2.toInt64)) / (100 : Int64))) p5 h12
      ) else (
        f_X6_salesNow_b48 E (f_X6_salesNow_l5 E n) p0 p1 p2 p3 p5 h7
      )
    )
theorem w_X6_salesNow_l5 (C0 : zCx p l e R s m args below meth c D B0 6 "FranchiseLedgerModel" cX6_salesNow E 2 82 (Option.some Jvm.ClassFile.FieldType.long) "salesNow") {r : Int64} {h' : zH} : ∀ (n : Nat) (p0 : Nat) (p1 : Int32) (p2 : Int32) (p3 : Int64) (p5 : Int32) (h : zH), f_X6_salesNow_l5 E n p0 p1 p2 p3 p5 h = some (r, h') → zW p l e R s m args below meth c D B0 6 (zEnd D B0 R below args s (zoL r) h') h 5 [(0, .ref p0), (1, .int p1), (2, .int p2), (3, .long p3), (5, .int p5)] [] := by
  intro n
  induction n with
  | zero =>
    intro p0 p1 p2 p3 p5 h hf
    unfold f_X6_salesNow_l5 at hf
    cases hf
  | succ n ih =>
    intro p0 p1 p2 p3 p5 h hf
    unfold f_X6_salesNow_l5 at hf
    refine zr_iload C0 dX6_salesNow_5 4 rfl ?_
    refine zr_i2l C0 dX6_salesNow_7 ?_
    refine zr_aload_n C0 dX6_salesNow_8 rfl 0 rfl ?_
    obtain ⟨x1, e2, hf⟩ := zbind hf
    refine zr_get C0 fl_X6_9_X6 dX6_salesNow_9 (zgR e2) ?_
    refine zr_iconst C0 (v := 3) dX6_salesNow_12 (by decide) ?_
    obtain ⟨x3, e4, hf⟩ := zbind hf
    refine zr_lald C0 dX6_salesNow_13 e4 ?_
    refine zr_lcmp C0 dX6_salesNow_14 ?_
    refine zr_if_ge C0 (tgt := 54) dX6_salesNow_15 (by decide) (fun c5 => ?_) (fun c5 => ?_)
    · have hf := zif_t (zl_ge.mp c5) hf
      refine zr_lload_n C0 dX6_salesNow_54 rfl 3 rfl ?_
      refine zretW hf ?_
      exact zr_lret C0 rfl dX6_salesNow_55 rfl
    · have hf := zif_f (zl_gen.mp c5) hf
      refine zr_aload_n C0 dX6_salesNow_18 rfl 0 rfl ?_
      refine zr_iload C0 dX6_salesNow_19 4 rfl ?_
      refine zr_iconst C0 (v := 0) dX6_salesNow_21 (by decide) ?_
      obtain ⟨_, e6, hf⟩ := zbind hf
      obtain ⟨x9, h7, e8, hf⟩ := zbind2 hf
      refine zr_callV_r C0 cv_X6_113_X6 rfl (zcko e6) (m_X6_ofOutlet C0.2.2.2.2.2.2.1 e8) (by decide) (by decide) rfl rfl (Nat.le_of_ble_eq_true rfl) dX6_salesNow_22 rfl ?_
      refine zr_iload_n C0 dX6_salesNow_25 rfl 1 rfl ?_
      refine zr_i2l C0 dX6_salesNow_26 ?_
      refine zr_lcmp C0 dX6_salesNow_27 ?_
      refine zr_if_ne C0 (tgt := 48) dX6_salesNow_28 (by decide) (fun c10 => ?_) (fun c10 => ?_)
      · have hf := zif_f (zl_ne.mp c10) hf
        exact w_X6_salesNow_b48 C0 ih hf
      · have hf := zif_t (zl_nen.mp c10) hf
        refine zr_lload_n C0 dX6_salesNow_31 rfl 3 rfl ?_
        refine zr_aload_n C0 dX6_salesNow_32 rfl 0 rfl ?_
        refine zr_iload C0 dX6_salesNow_33 4 rfl ?_
        refine zr_iconst C0 (v := 3) dX6_salesNow_35 (by decide) ?_
        obtain ⟨_, e11, hf⟩ := zbind hf
        obtain ⟨x14, h12, e13, hf⟩ := zbind2 hf
        refine zr_callV_r C0 cv_X6_113_X6 rfl (zcko e11) (m_X6_ofOutlet C0.2.2.2.2.2.2.1 e13) (by decide) (by decide) rfl rfl (Nat.le_of_ble_eq_true rfl) dX6_salesNow_36 rfl ?_
        refine zr_iload_n C0 dX6_salesNow_39 rfl 2 rfl ?_
        refine zr_i2l C0 dX6_salesNow_40 ?_
        refine zr_lmul C0 dX6_salesNow_41 ?_
        refine zr_ldc2 C0 (v := 100) q2752 dX6_salesNow_42 ?_
        refine zr_ldiv C0 dX6_salesNow_45 (by decide) ?_
        refine zr_ladd C0 dX6_salesNow_46 ?_
        refine zr_lstore_n (i := 3) (lv' := [(3, .long (p3 + ((x14 * (p2.toInt64)) / (100 : Int64)))), (0, .ref p0), (1, .int p1), (2, .int p2), (5, .int p5)]) C0 dX6_salesNow_47 rfl (by decide) (by first | rfl | simp [zst1, zst2, zcat_rf]) ?_
        refine zr_sub [1, 2, 3, 0, 4] rfl ?_
        exact w_X6_salesNow_b48 C0 ih hf
def f_X6_salesNow_b0 (E : zE) (p0 : Nat) (p1 : Int32) (p2 : Int32) (h : zH) : Option (Int64 × zH) :=
  f_X6_salesNow_l5 E E.1 p0 p1 p2 (0 : Int64) (0 : Int32) h
theorem w_X6_salesNow_b0 (C0 : zCx p l e R s m args below meth c D B0 6 "FranchiseLedgerModel" cX6_salesNow E 2 82 (Option.some Jvm.ClassFile.FieldType.long) "salesNow") {r : Int64} {h' : zH} {p0 : Nat} {p1 : Int32} {p2 : Int32} {h : zH} (hf : f_X6_salesNow_b0 E p0 p1 p2 h = some (r, h')) : zW p l e R s m args below meth c D B0 6 (zEnd D B0 R below args s (zoL r) h') h 0 [(0, .ref p0), (1, .int p1), (2, .int p2)] [] := by
  unfold f_X6_salesNow_b0 at hf
  refine zr_lconst C0 (v := 0) dX6_salesNow_0 (by decide) ?_
  refine zr_lstore_n (i := 3) (lv' := [(3, .long (0 : Int64)), (0, .ref p0), (1, .int p1), (2, .int p2)]) C0 dX6_salesNow_1 rfl (by decide) (by first | rfl | simp [zst1, zst2, zcat_rf]) ?_
  refine zr_iconst C0 (v := 0) dX6_salesNow_2 (by decide) ?_
  refine zr_istore (i := 5) (lv' := [(5, .int (0 : Int32)), (3, .long (0 : Int64)), (0, .ref p0), (1, .int p1), (2, .int p2)]) C0 dX6_salesNow_3 (by decide) (by first | rfl | simp [zst1, zst2, zcat_rf]) ?_
  refine zr_sub [2, 3, 4, 1, 0] rfl ?_
  exact w_X6_salesNow_l5 C0 _ _ _ _ _ _ _ hf
def f_X6_salesNow (E : zE) (p0 : Nat) (p1 : Int32) (p2 : Int32) (h : zH) : Option (Int64 × zH) := f_X6_salesNow_b0 E p0 p1 p2 h
theorem m_X6_salesNow {l : Launch} (hst : l.stackTraces = false) {D : zD} {B0 : Nat} {E : zE} {p0 : Nat} {p1 : Int32} {p2 : Int32} {h h' : zH} {r : Int64} (hf : f_X6_salesNow E p0 p1 p2 h = some (r, h')) : zMet l yX6_salesNow (ws_ yX6_salesNow cX6_salesNow 6 (Option.some Jvm.ClassFile.FieldType.long)) 2 82 D B0 E [.ref p0, .int p1, .int p2] h (zoL r) h' := by
  unfold f_X6_salesNow at hf
  refine zMet_of hst (by decide +kernel) rfl rfl (Nat.le_of_ble_eq_true rfl) (fun p e R s m below meth c C0 hno => ?_)
  show zW _ _ _ _ _ _ _ _ _ _ _ _ _ _ _ _ [(0, .ref p0), (1, .int p1), (2, .int p2)] []
  exact w_X6_salesNow_b0 C0 hf
def f_X6_rated_b0 (E : zE) (p0 : Int64) (p2 : Int64) (h : zH) : Option (Int64 × zH) :=
  bnd2 (f_X6_half E (p0 * p2) h) fun x3 h1 =>
  some (x3, h1)
theorem w_X6_rated_b0 (C0 : zCx p l e R s m args below meth c D B0 4 "FranchiseLedgerModel" cX6_rated E 2 81 (Option.some Jvm.ClassFile.FieldType.long) "rated") {r : Int64} {h' : zH} {p0 : Int64} {p2 : Int64} {h : zH} (hf : f_X6_rated_b0 E p0 p2 h = some (r, h')) : zW p l e R s m args below meth c D B0 4 (zEnd D B0 R below args s (zoL r) h') h 0 [(0, .long p0), (2, .long p2)] [] := by
  unfold f_X6_rated_b0 at hf
  refine zr_lload_n C0 dX6_rated_0 rfl 0 rfl ?_
  refine zr_lload_n C0 dX6_rated_1 rfl 1 rfl ?_
  refine zr_lmul C0 dX6_rated_2 ?_
  obtain ⟨x3, h1, e2, hf⟩ := zbind2 hf
  refine zr_callS_r C0 cv_X6_164 (m_X6_half C0.2.2.2.2.2.2.1 e2) (by decide) (by decide) rfl rfl (Nat.le_of_ble_eq_true rfl) dX6_rated_3 rfl ?_
  refine zretW hf ?_
  exact zr_lret C0 rfl dX6_rated_6 rfl
def f_X6_rated (E : zE) (p0 : Int64) (p2 : Int64) (h : zH) : Option (Int64 × zH) := f_X6_rated_b0 E p0 p2 h
theorem m_X6_rated {l : Launch} (hst : l.stackTraces = false) {D : zD} {B0 : Nat} {E : zE} {p0 : Int64} {p2 : Int64} {h h' : zH} {r : Int64} (hf : f_X6_rated E p0 p2 h = some (r, h')) : zMet l yX6_rated (ws_ yX6_rated cX6_rated 4 (Option.some Jvm.ClassFile.FieldType.long)) 2 81 D B0 E [.long p0, .long p2] h (zoL r) h' := by
  unfold f_X6_rated at hf
  refine zMet_of hst (by decide +kernel) rfl rfl (Nat.le_of_ble_eq_true rfl) (fun p e R s m below meth c C0 hno => ?_)
  show zW _ _ _ _ _ _ _ _ _ _ _ _ _ _ _ _ [(0, .long p0), (2, .long p2)] []
  exact w_X6_rated_b0 C0 hf
def f_X6_feesBy_b0 (E : zE) (p0 : Nat) (p1 : Int32) (p2 : Int64) (h : zH) : Option (Int64 × zH) :=
  (cko h p0 1).bind fun _ =>
  bnd2 (f_X6_royaltyOf E p0 p1 p2 h) fun x4 h2 =>
  (cko h2 p0 1).bind fun _ =>
  bnd2 (f_X6_ofPlan E p0 p1 (0 : Int32) h2) fun x8 h6 =>
  bnd2 (f_X6_rated E p2 x8 h6) fun x11 h9 =>
  some ((x4 + x11), h9)
theorem w_X6_feesBy_b0 (C0 : zCx p l e R s m args below meth c D B0 4 "FranchiseLedgerModel" cX6_feesBy E 3 115 (Option.some Jvm.ClassFile.FieldType.long) "feesBy") {r : Int64} {h' : zH} {p0 : Nat} {p1 : Int32} {p2 : Int64} {h : zH} (hf : f_X6_feesBy_b0 E p0 p1 p2 h = some (r, h')) : zW p l e R s m args below meth c D B0 4 (zEnd D B0 R below args s (zoL r) h') h 0 [(0, .ref p0), (1, .int p1), (2, .long p2)] [] := by
  unfold f_X6_feesBy_b0 at hf
  refine zr_aload_n C0 dX6_feesBy_0 rfl 0 rfl ?_
  refine zr_iload_n C0 dX6_feesBy_1 rfl 1 rfl ?_
  refine zr_lload_n C0 dX6_feesBy_2 rfl 2 rfl ?_
  obtain ⟨_, e1, hf⟩ := zbind hf
  obtain ⟨x4, h2, e3, hf⟩ := zbind2 hf
  refine zr_callV_r C0 cv_X6_176_X6 rfl (zcko e1) (m_X6_royaltyOf C0.2.2.2.2.2.2.1 e3) (by decide) (by decide) rfl rfl (Nat.le_of_ble_eq_true rfl) dX6_feesBy_3 rfl ?_
  refine zr_lload_n C0 dX6_feesBy_6 rfl 2 rfl ?_
  refine zr_aload_n C0 dX6_feesBy_7 rfl 0 rfl ?_
  refine zr_iload_n C0 dX6_feesBy_8 rfl 1 rfl ?_
  refine zr_iconst C0 (v := 0) dX6_feesBy_9 (by decide) ?_
  obtain ⟨_, e5, hf⟩ := zbind hf
  obtain ⟨x8, h6, e7, hf⟩ := zbind2 hf
  refine zr_callV_r C0 cv_X6_168_X6 rfl (zcko e5) (m_X6_ofPlan C0.2.2.2.2.2.2.1 e7) (by decide) (by decide) rfl rfl (Nat.le_of_ble_eq_true rfl) dX6_feesBy_10 rfl ?_
  obtain ⟨x11, h9, e10, hf⟩ := zbind2 hf
  refine zr_callS_r C0 cv_X6_187 (m_X6_rated C0.2.2.2.2.2.2.1 e10) (by decide) (by decide) rfl rfl (Nat.le_of_ble_eq_true rfl) dX6_feesBy_13 rfl ?_
  refine zr_ladd C0 dX6_feesBy_16 ?_
  refine zretW hf ?_
  exact zr_lret C0 rfl dX6_feesBy_17 rfl
def f_X6_feesBy (E : zE) (p0 : Nat) (p1 : Int32) (p2 : Int64) (h : zH) : Option (Int64 × zH) := f_X6_feesBy_b0 E p0 p1 p2 h
theorem m_X6_feesBy {l : Launch} (hst : l.stackTraces = false) {D : zD} {B0 : Nat} {E : zE} {p0 : Nat} {p1 : Int32} {p2 : Int64} {h h' : zH} {r : Int64} (hf : f_X6_feesBy E p0 p1 p2 h = some (r, h')) : zMet l yX6_feesBy (ws_ yX6_feesBy cX6_feesBy 4 (Option.some Jvm.ClassFile.FieldType.long)) 3 115 D B0 E [.ref p0, .int p1, .long p2] h (zoL r) h' := by
  unfold f_X6_feesBy at hf
  refine zMet_of hst (by decide +kernel) rfl rfl (Nat.le_of_ble_eq_true rfl) (fun p e R s m below meth c C0 hno => ?_)
  show zW _ _ _ _ _ _ _ _ _ _ _ _ _ _ _ _ [(0, .ref p0), (1, .int p1), (2, .long p2)] []
  exact w_X6_feesBy_b0 C0 hf
def f_X6_cheapestPlan_b77 (E : zE) (k42 : Nat → Int64 → Int32 → Int32 → zH → Option (Int32 × zH)) (p0 : Nat) (p2 : Int64) (p4 : Int32) (p5 : Int32) (h : zH) : Option (Int32 × zH) :=
  k42 p0 p2 p4 (p5 + 1) h
theorem w_X6_cheapestPlan_b77 (C0 : zCx p l e R s m args below meth c D B0 6 "FranchiseLedgerModel" cX6_cheapestPlan E 4 138 (Option.some Jvm.ClassFile.FieldType.int) "cheapestPlan") {r : Int32} {h' : zH} {k42 : Nat → Int64 → Int32 → Int32 → zH → Option (Int32 × zH)} (hk42 : ∀ (p0 : Nat) (p2 : Int64) (p4 : Int32) (p5 : Int32) (h : zH), k42 p0 p2 p4 p5 h = some (r, h') → zW p l e R s m args below meth c D B0 6 (zEnd D B0 R below args s (zoI r) h') h 42 [(0, .ref p0), (2, .long p2), (4, .int p4), (5, .int p5)] []) {p0 : Nat} {p2 : Int64} {p4 : Int32} {p5 : Int32} {h : zH} (hf : f_X6_cheapestPlan_b77 E k42 p0 p2 p4 p5 h = some (r, h')) : zW p l e R s m args below meth c D B0 6 (zEnd D B0 R below args s (zoI r) h') h 77 [(0, .ref p0), (2, .long p2), (4, .int p4), (5, .int p5)] [] := by
  unfold f_X6_cheapestPlan_b77 at hf
  refine zr_iinc (lv' := [(5, .int (p5 + 1)), (0, .ref p0), (2, .long p2), (4, .int p4)]) C0 dX6_cheapestPlan_77 3 rfl rfl (by decide) (by first | rfl | simp [zst1, zst2, zcat_rf]) ?_
  refine zr_goto C0 (tgt := 42) dX6_cheapestPlan_80 (by decide) ?_
  refine zr_sub [1, 2, 3, 0] rfl ?_
  exact hk42 _ _ _ _ _ hf
def f_X6_cheapestPlan_l42 (E : zE) : Nat → Nat → Int64 → Int32 → Int32 → zH → Option (Int32 × zH)
  | 0, _, _, _, _, _ => none
  | n + 1, p0, p2, p4, p5, h =>
    (gR h p0 1 0).bind fun x1 =>
    (dL h x1 (1 : Int32)).bind fun x3 =>
    if x3 ≤ (p5.toInt64) then (
      some (p4, h)
    ) else (
      (cko h p0 1).bind fun _ =>
      bnd2 (f_X6_feesBy E p0 p5 p2 h) fun x9 h7 =>
      (cko h7 p0 1).bind fun _ =>
      bnd2 (f_X6_feesBy E p0 p4 p2 h7) fun x13 h11 =>
      if x13 ≤ x9 then (
        f_X6_cheapestPlan_b77 E (f_X6_cheapestPlan_l42 E n) p0 p2 p4 p5 h11
      ) else (
        f_X6_cheapestPlan_b77 E (f_X6_cheapestPlan_l42 E n) p0 p2 p5 p5 h11
      )
    )
theorem w_X6_cheapestPlan_l42 (C0 : zCx p l e R s m args below meth c D B0 6 "FranchiseLedgerModel" cX6_cheapestPlan E 4 138 (Option.some Jvm.ClassFile.FieldType.int) "cheapestPlan") {r : Int32} {h' : zH} : ∀ (n : Nat) (p0 : Nat) (p2 : Int64) (p4 : Int32) (p5 : Int32) (h : zH), f_X6_cheapestPlan_l42 E n p0 p2 p4 p5 h = some (r, h') → zW p l e R s m args below meth c D B0 6 (zEnd D B0 R below args s (zoI r) h') h 42 [(0, .ref p0), (2, .long p2), (4, .int p4), (5, .int p5)] [] := by
  intro n
  induction n with
  | zero =>
    intro p0 p2 p4 p5 h hf
    unfold f_X6_cheapestPlan_l42 at hf
    cases hf
  | succ n ih =>
    intro p0 p2 p4 p5 h hf
    unfold f_X6_cheapestPlan_l42 at hf
    refine zr_iload C0 dX6_cheapestPlan_42 3 rfl ?_
    refine zr_i2l C0 dX6_cheapestPlan_44 ?_
    refine zr_aload_n C0 dX6_cheapestPlan_45 rfl 0 rfl ?_
    obtain ⟨x1, e2, hf⟩ := zbind hf
    refine zr_get C0 fl_X6_9_X6 dX6_cheapestPlan_46 (zgR e2) ?_
    refine zr_iconst C0 (v := 1) dX6_cheapestPlan_49 (by decide) ?_
    obtain ⟨x3, e4, hf⟩ := zbind hf
    refine zr_lald C0 dX6_cheapestPlan_50 e4 ?_
    refine zr_lcmp C0 dX6_cheapestPlan_51 ?_
    refine zr_if_ge C0 (tgt := 83) dX6_cheapestPlan_52 (by decide) (fun c5 => ?_) (fun c5 => ?_)
    · have hf := zif_t (zl_ge.mp c5) hf
      refine zr_iload C0 dX6_cheapestPlan_83 2 rfl ?_
      refine zretW hf ?_
      exact zr_iret C0 (ty := .int) rfl rfl dX6_cheapestPlan_85 rfl
    · have hf := zif_f (zl_gen.mp c5) hf
      refine zr_aload_n C0 dX6_cheapestPlan_55 rfl 0 rfl ?_
      refine zr_iload C0 dX6_cheapestPlan_56 3 rfl ?_
      refine zr_lload_n C0 dX6_cheapestPlan_58 rfl 1 rfl ?_
      obtain ⟨_, e6, hf⟩ := zbind hf
      obtain ⟨x9, h7, e8, hf⟩ := zbind2 hf
      refine zr_callV_r C0 cv_X6_194_X6 rfl (zcko e6) (m_X6_feesBy C0.2.2.2.2.2.2.1 e8) (by decide) (by decide) rfl rfl (Nat.le_of_ble_eq_true rfl) dX6_cheapestPlan_59 rfl ?_
      refine zr_aload_n C0 dX6_cheapestPlan_62 rfl 0 rfl ?_
      refine zr_iload C0 dX6_cheapestPlan_63 2 rfl ?_
      refine zr_lload_n C0 dX6_cheapestPlan_65 rfl 1 rfl ?_
      obtain ⟨_, e10, hf⟩ := zbind hf
      obtain ⟨x13, h11, e12, hf⟩ := zbind2 hf
      refine zr_callV_r C0 cv_X6_194_X6 rfl (zcko e10) (m_X6_feesBy C0.2.2.2.2.2.2.1 e12) (by decide) (by decide) rfl rfl (Nat.le_of_ble_eq_true rfl) dX6_cheapestPlan_66 rfl ?_
      refine zr_lcmp C0 dX6_cheapestPlan_69 ?_
      refine zr_if_ge C0 (tgt := 77) dX6_cheapestPlan_70 (by decide) (fun c14 => ?_) (fun c14 => ?_)
      · have hf := zif_t (zl_ge.mp c14) hf
        exact w_X6_cheapestPlan_b77 C0 ih hf
      · have hf := zif_f (zl_gen.mp c14) hf
        refine zr_iload C0 dX6_cheapestPlan_73 3 rfl ?_
        refine zr_istore (i := 4) (lv' := [(4, .int p5), (0, .ref p0), (2, .long p2), (5, .int p5)]) C0 dX6_cheapestPlan_75 (by decide) (by first | rfl | simp [zst1, zst2, zcat_rf]) ?_
        refine zr_sub [1, 2, 0, 3] rfl ?_
        exact w_X6_cheapestPlan_b77 C0 ih hf
def f_X6_cheapestPlan_b19 (E : zE) (p0 : Nat) (p1 : Int32) (s0 : Nat) (s1 : Int32) (h : zH) : Option (Int32 × zH) :=
  (cko h s0 1).bind fun _ =>
  bnd2 (f_X6_throwsIf E s0 s1 (1 : Int32) h) fun x4 h2 =>
  if x4 = 0 then (
    (cko h2 p0 1).bind fun _ =>
    bnd2 (f_X6_salesNow E p0 p1 (100 : Int32) h2) fun x9 h7 =>
    f_X6_cheapestPlan_l42 E E.1 p0 x9 (0 : Int32) (1 : Int32) h7
  ) else (
    some ((0 : Int32), h2)
  )
theorem w_X6_cheapestPlan_b19 (C0 : zCx p l e R s m args below meth c D B0 6 "FranchiseLedgerModel" cX6_cheapestPlan E 4 138 (Option.some Jvm.ClassFile.FieldType.int) "cheapestPlan") {r : Int32} {h' : zH} {p0 : Nat} {p1 : Int32} {s0 : Nat} {s1 : Int32} {h : zH} (hf : f_X6_cheapestPlan_b19 E p0 p1 s0 s1 h = some (r, h')) : zW p l e R s m args below meth c D B0 6 (zEnd D B0 R below args s (zoI r) h') h 19 [(0, .ref p0), (1, .int p1)] [.int s1, .ref s0] := by
  unfold f_X6_cheapestPlan_b19 at hf
  refine zr_iconst C0 (v := 1) dX6_cheapestPlan_19 (by decide) ?_
  obtain ⟨_, e1, hf⟩ := zbind hf
  obtain ⟨x4, h2, e3, hf⟩ := zbind2 hf
  refine zr_callV_r C0 cv_X6_81_X6 rfl (zcko e1) (m_X6_throwsIf C0.2.2.2.2.2.2.1 e3) (by decide) (by decide) rfl rfl (Nat.le_of_ble_eq_true rfl) dX6_cheapestPlan_20 rfl ?_
  refine zr_if_eq C0 (tgt := 28) dX6_cheapestPlan_23 (by decide) (fun c5 => ?_) (fun c5 => ?_)
  · have hf := zif_t c5 hf
    refine zr_aload_n C0 dX6_cheapestPlan_28 rfl 0 rfl ?_
    refine zr_iload_n C0 dX6_cheapestPlan_29 rfl 1 rfl ?_
    refine zr_bipush C0 (v := 100) dX6_cheapestPlan_30 (by decide) ?_
    obtain ⟨_, e6, hf⟩ := zbind hf
    obtain ⟨x9, h7, e8, hf⟩ := zbind2 hf
    refine zr_callV_r C0 cv_X6_191_X6 rfl (zcko e6) (m_X6_salesNow C0.2.2.2.2.2.2.1 e8) (by decide) (by decide) rfl rfl (Nat.le_of_ble_eq_true rfl) dX6_cheapestPlan_32 rfl ?_
    refine zr_lstore_n (i := 2) (lv' := [(2, .long x9), (0, .ref p0), (1, .int p1)]) C0 dX6_cheapestPlan_35 rfl (by decide) (by first | rfl | simp [zst1, zst2, zcat_rf]) ?_
    refine zr_iconst C0 (v := 0) dX6_cheapestPlan_36 (by decide) ?_
    refine zr_istore (i := 4) (lv' := [(4, .int (0 : Int32)), (2, .long x9), (0, .ref p0), (1, .int p1)]) C0 dX6_cheapestPlan_37 (by decide) (by first | rfl | simp [zst1, zst2, zcat_rf]) ?_
    refine zr_iconst C0 (v := 1) dX6_cheapestPlan_39 (by decide) ?_
    refine zr_istore (i := 5) (lv' := [(5, .int (1 : Int32)), (4, .int (0 : Int32)), (2, .long x9), (0, .ref p0), (1, .int p1)]) C0 dX6_cheapestPlan_40 (by decide) (by first | rfl | simp [zst1, zst2, zcat_rf]) ?_
    refine zr_sub [3, 2, 1, 0] rfl ?_
    exact w_X6_cheapestPlan_l42 C0 _ _ _ _ _ _ hf
  · have hf := zif_f c5 hf
    refine zr_iconst C0 (v := 0) dX6_cheapestPlan_26 (by decide) ?_
    refine zretW hf ?_
    exact zr_iret C0 (ty := .int) rfl rfl dX6_cheapestPlan_27 rfl
def f_X6_cheapestPlan_b0 (E : zE) (p0 : Nat) (p1 : Int32) (h : zH) : Option (Int32 × zH) :=
  (pF h p0 1 2 (.int (0 : Int32))).bind fun h1 =>
  (cko h1 p0 1).bind fun _ =>
  bnd2 (f_X6_isFranchisee E p0 p1 h1) fun x6 h4 =>
  if x6 = 0 then (
    f_X6_cheapestPlan_b19 E p0 p1 p0 (1 : Int32) h4
  ) else (
    f_X6_cheapestPlan_b19 E p0 p1 p0 (0 : Int32) h4
  )
theorem w_X6_cheapestPlan_b0 (C0 : zCx p l e R s m args below meth c D B0 6 "FranchiseLedgerModel" cX6_cheapestPlan E 4 138 (Option.some Jvm.ClassFile.FieldType.int) "cheapestPlan") {r : Int32} {h' : zH} {p0 : Nat} {p1 : Int32} {h : zH} (hf : f_X6_cheapestPlan_b0 E p0 p1 h = some (r, h')) : zW p l e R s m args below meth c D B0 6 (zEnd D B0 R below args s (zoI r) h') h 0 [(0, .ref p0), (1, .int p1)] [] := by
  unfold f_X6_cheapestPlan_b0 at hf
  refine zr_aload_n C0 dX6_cheapestPlan_0 rfl 0 rfl ?_
  refine zr_iconst C0 (v := 0) dX6_cheapestPlan_1 (by decide) ?_
  obtain ⟨h1, e2, hf⟩ := zbind hf
  refine zr_put C0 pl_X6_50_X6 dX6_cheapestPlan_2 (fun h => by cases h) rfl rfl e2 ?_
  refine zr_aload_n C0 dX6_cheapestPlan_5 rfl 0 rfl ?_
  refine zr_aload_n C0 dX6_cheapestPlan_6 rfl 0 rfl ?_
  refine zr_iload_n C0 dX6_cheapestPlan_7 rfl 1 rfl ?_
  obtain ⟨_, e3, hf⟩ := zbind hf
  obtain ⟨x6, h4, e5, hf⟩ := zbind2 hf
  refine zr_callV_r C0 cv_X6_85_X6 rfl (zcko e3) (m_X6_isFranchisee C0.2.2.2.2.2.2.1 e5) (by decide) (by decide) rfl rfl (Nat.le_of_ble_eq_true rfl) dX6_cheapestPlan_8 rfl ?_
  refine zr_if_ne C0 (tgt := 18) dX6_cheapestPlan_11 (by decide) (fun c7 => ?_) (fun c7 => ?_)
  · have hf := zif_f c7 hf
    refine zr_iconst C0 (v := 0) dX6_cheapestPlan_18 (by decide) ?_
    exact w_X6_cheapestPlan_b19 C0 hf
  · have hf := zif_t c7 hf
    refine zr_iconst C0 (v := 1) dX6_cheapestPlan_14 (by decide) ?_
    refine zr_goto C0 (tgt := 19) dX6_cheapestPlan_15 (by decide) ?_
    exact w_X6_cheapestPlan_b19 C0 hf
def f_X6_cheapestPlan (E : zE) (p0 : Nat) (p1 : Int32) (h : zH) : Option (Int32 × zH) := f_X6_cheapestPlan_b0 E p0 p1 h
theorem m_X6_cheapestPlan {l : Launch} (hst : l.stackTraces = false) {D : zD} {B0 : Nat} {E : zE} {p0 : Nat} {p1 : Int32} {h h' : zH} {r : Int32} (hf : f_X6_cheapestPlan E p0 p1 h = some (r, h')) : zMet l yX6_cheapestPlan (ws_ yX6_cheapestPlan cX6_cheapestPlan 6 (Option.some Jvm.ClassFile.FieldType.int)) 4 138 D B0 E [.ref p0, .int p1] h (zoI r) h' := by
  unfold f_X6_cheapestPlan at hf
  refine zMet_of hst (by decide +kernel) rfl rfl (Nat.le_of_ble_eq_true rfl) (fun p e R s m below meth c C0 hno => ?_)
  show zW _ _ _ _ _ _ _ _ _ _ _ _ _ _ _ _ [(0, .ref p0), (1, .int p1)] []
  exact w_X6_cheapestPlan_b0 C0 hf
def f_X6_isOver_b18 (E : zE) (s0 : Int32) (h : zH) : Option (Int32 × zH) :=
  (zgd .boolean s0).bind fun _ =>
  some (s0, h)
theorem w_X6_isOver_b18 (C0 : zCx p l e R s m args below meth c D B0 1 "FranchiseLedgerModel" cX6_isOver E 1 60 (Option.some Jvm.ClassFile.FieldType.boolean) "isOver") {r : Int32} {h' : zH} {s0 : Int32} {h : zH} (hf : f_X6_isOver_b18 E s0 h = some (r, h')) : zW p l e R s m args below meth c D B0 1 (zEnd D B0 R below args s (zoI r) h') h 18 [] [.int s0] := by
  unfold f_X6_isOver_b18 at hf
  obtain ⟨_, e1, hf⟩ := zbind hf
  refine zretW hf ?_
  exact zr_iret C0 (ty := .boolean) rfl (zgd_n e1) dX6_isOver_18 rfl
def f_X6_isOver_b0 (E : zE) (p0 : Nat) (h : zH) : Option (Int32 × zH) :=
  (gR h p0 1 0).bind fun x1 =>
  (dL h x1 (0 : Int32)).bind fun x3 =>
  if x3 = (60 : Int64) then (
    f_X6_isOver_b18 E (1 : Int32) h
  ) else (
    f_X6_isOver_b18 E (0 : Int32) h
  )
theorem w_X6_isOver_b0 (C0 : zCx p l e R s m args below meth c D B0 1 "FranchiseLedgerModel" cX6_isOver E 1 60 (Option.some Jvm.ClassFile.FieldType.boolean) "isOver") {r : Int32} {h' : zH} {p0 : Nat} {h : zH} (hf : f_X6_isOver_b0 E p0 h = some (r, h')) : zW p l e R s m args below meth c D B0 1 (zEnd D B0 R below args s (zoI r) h') h 0 [(0, .ref p0)] [] := by
  unfold f_X6_isOver_b0 at hf
  refine zr_aload_n C0 dX6_isOver_0 rfl 0 rfl ?_
  obtain ⟨x1, e2, hf⟩ := zbind hf
  refine zr_get C0 fl_X6_9_X6 dX6_isOver_1 (zgR e2) ?_
  refine zr_iconst C0 (v := 0) dX6_isOver_4 (by decide) ?_
  obtain ⟨x3, e4, hf⟩ := zbind hf
  refine zr_lald C0 dX6_isOver_5 e4 ?_
  refine zr_ldc2 C0 (v := 60) q2849 dX6_isOver_6 ?_
  refine zr_lcmp C0 dX6_isOver_9 ?_
  refine zr_if_ne C0 (tgt := 17) dX6_isOver_10 (by decide) (fun c5 => ?_) (fun c5 => ?_)
  · have hf := zif_f (zl_ne.mp c5) hf
    refine zr_iconst C0 (v := 0) dX6_isOver_17 (by decide) ?_
    refine zr_sub [] rfl ?_
    exact w_X6_isOver_b18 C0 hf
  · have hf := zif_t (zl_nen.mp c5) hf
    refine zr_iconst C0 (v := 1) dX6_isOver_13 (by decide) ?_
    refine zr_goto C0 (tgt := 18) dX6_isOver_14 (by decide) ?_
    refine zr_sub [] rfl ?_
    exact w_X6_isOver_b18 C0 hf
def f_X6_isOver (E : zE) (p0 : Nat) (h : zH) : Option (Int32 × zH) := f_X6_isOver_b0 E p0 h
theorem m_X6_isOver {l : Launch} (hst : l.stackTraces = false) {D : zD} {B0 : Nat} {E : zE} {p0 : Nat} {h h' : zH} {r : Int32} (hf : f_X6_isOver E p0 h = some (r, h')) : zMet l yX6_isOver (ws_ yX6_isOver cX6_isOver 1 (Option.some Jvm.ClassFile.FieldType.boolean)) 1 60 D B0 E [.ref p0] h (zoI r) h' := by
  unfold f_X6_isOver at hf
  refine zMet_of hst (by decide +kernel) rfl rfl (Nat.le_of_ble_eq_true rfl) (fun p e R s m below meth c C0 hno => ?_)
  show zW _ _ _ _ _ _ _ _ _ _ _ _ _ _ _ _ [(0, .ref p0)] []
  exact w_X6_isOver_b0 C0 hf
def f_X6_reportSales_b62 (E : zE) (h : zH) : Option (Int64 × zH) :=
  some ((0 : Int64), h)
theorem w_X6_reportSales_b62 (C0 : zCx p l e R s m args below meth c D B0 6 "FranchiseLedgerModel" cX6_reportSales E 3 106 (Option.some Jvm.ClassFile.FieldType.long) "reportSales") {r : Int64} {h' : zH} {h : zH} (hf : f_X6_reportSales_b62 E  h = some (r, h')) : zW p l e R s m args below meth c D B0 6 (zEnd D B0 R below args s (zoL r) h') h 62 [] [] := by
  unfold f_X6_reportSales_b62 at hf
  refine zr_lconst C0 (v := 0) dX6_reportSales_62 (by decide) ?_
  refine zretW hf ?_
  exact zr_lret C0 rfl dX6_reportSales_63 rfl
def f_X6_reportSales_b43 (E : zE) (p0 : Nat) (p1 : Int32) (p2 : Int64) (s0 : Nat) (s1 : Int32) (h : zH) : Option (Int64 × zH) :=
  (cko h s0 1).bind fun _ =>
  bnd2 (f_X6_throwsIf E s0 s1 (2 : Int32) h) fun x4 h2 =>
  if x4 = 0 then (
    (cko h2 p0 1).bind fun _ =>
    bnd2 (f_X6_isOver E p0 h2) fun x9 h7 =>
    (cko h7 p0 1).bind fun _ =>
    bnd2 (f_X6_throwsIf E p0 x9 (3 : Int32) h7) fun x13 h11 =>
    if x13 = 0 then (
      (cko h11 p0 1).bind fun _ =>
      bnd2 (f_X6_isOpen E p0 p1 h11) fun x18 h16 =>
      if x18 = 0 then (
        some ((-1 : Int64), h16)
      ) else (
        (cko h16 p0 1).bind fun _ =>
        bnd2 (f_X6_ofOutlet E p0 p1 (3 : Int32) h16) fun x23 h21 =>
        (gR h21 p0 1 0).bind fun x24 =>
        (sL h21 x24 (((186 : Int32) + ((4 : Int32) * p1)) + (3 : Int32)) p2).bind fun h26 =>
        some (x23, h26)
      )
    ) else (
      f_X6_reportSales_b62 E  h11
    )
  ) else (
    f_X6_reportSales_b62 E  h2
  )
theorem w_X6_reportSales_b43 (C0 : zCx p l e R s m args below meth c D B0 6 "FranchiseLedgerModel" cX6_reportSales E 3 106 (Option.some Jvm.ClassFile.FieldType.long) "reportSales") {r : Int64} {h' : zH} {p0 : Nat} {p1 : Int32} {p2 : Int64} {s0 : Nat} {s1 : Int32} {h : zH} (hf : f_X6_reportSales_b43 E p0 p1 p2 s0 s1 h = some (r, h')) : zW p l e R s m args below meth c D B0 6 (zEnd D B0 R below args s (zoL r) h') h 43 [(0, .ref p0), (1, .int p1), (2, .long p2)] [.int s1, .ref s0] := by
  unfold f_X6_reportSales_b43 at hf
  refine zr_iconst C0 (v := 2) dX6_reportSales_43 (by decide) ?_
  obtain ⟨_, e1, hf⟩ := zbind hf
  obtain ⟨x4, h2, e3, hf⟩ := zbind2 hf
  refine zr_callV_r C0 cv_X6_81_X6 rfl (zcko e1) (m_X6_throwsIf C0.2.2.2.2.2.2.1 e3) (by decide) (by decide) rfl rfl (Nat.le_of_ble_eq_true rfl) dX6_reportSales_44 rfl ?_
  refine zr_if_ne C0 (tgt := 62) dX6_reportSales_47 (by decide) (fun c5 => ?_) (fun c5 => ?_)
  · have hf := zif_f c5 hf
    refine zr_sub [] rfl ?_
    exact w_X6_reportSales_b62 C0 hf
  · have hf := zif_t c5 hf
    refine zr_aload_n C0 dX6_reportSales_50 rfl 0 rfl ?_
    refine zr_aload_n C0 dX6_reportSales_51 rfl 0 rfl ?_
    obtain ⟨_, e6, hf⟩ := zbind hf
    obtain ⟨x9, h7, e8, hf⟩ := zbind2 hf
    refine zr_callV_r C0 cv_X6_201_X6 rfl (zcko e6) (m_X6_isOver C0.2.2.2.2.2.2.1 e8) (by decide) (by decide) rfl rfl (Nat.le_of_ble_eq_true rfl) dX6_reportSales_52 rfl ?_
    refine zr_iconst C0 (v := 3) dX6_reportSales_55 (by decide) ?_
    obtain ⟨_, e10, hf⟩ := zbind hf
    obtain ⟨x13, h11, e12, hf⟩ := zbind2 hf
    refine zr_callV_r C0 cv_X6_81_X6 rfl (zcko e10) (m_X6_throwsIf C0.2.2.2.2.2.2.1 e12) (by decide) (by decide) rfl rfl (Nat.le_of_ble_eq_true rfl) dX6_reportSales_56 rfl ?_
    refine zr_if_eq C0 (tgt := 64) dX6_reportSales_59 (by decide) (fun c14 => ?_) (fun c14 => ?_)
    · have hf := zif_t c14 hf
      refine zr_aload_n C0 dX6_reportSales_64 rfl 0 rfl ?_
      refine zr_iload_n C0 dX6_reportSales_65 rfl 1 rfl ?_
      obtain ⟨_, e15, hf⟩ := zbind hf
      obtain ⟨x18, h16, e17, hf⟩ := zbind2 hf
      refine zr_callV_r C0 cv_X6_118_X6 rfl (zcko e15) (m_X6_isOpen C0.2.2.2.2.2.2.1 e17) (by decide) (by decide) rfl rfl (Nat.le_of_ble_eq_true rfl) dX6_reportSales_66 rfl ?_
      refine zr_if_ne C0 (tgt := 76) dX6_reportSales_69 (by decide) (fun c19 => ?_) (fun c19 => ?_)
      · have hf := zif_f c19 hf
        refine zr_aload_n C0 dX6_reportSales_76 rfl 0 rfl ?_
        refine zr_iload_n C0 dX6_reportSales_77 rfl 1 rfl ?_
        refine zr_iconst C0 (v := 3) dX6_reportSales_78 (by decide) ?_
        obtain ⟨_, e20, hf⟩ := zbind hf
        obtain ⟨x23, h21, e22, hf⟩ := zbind2 hf
        refine zr_callV_r C0 cv_X6_113_X6 rfl (zcko e20) (m_X6_ofOutlet C0.2.2.2.2.2.2.1 e22) (by decide) (by decide) rfl rfl (Nat.le_of_ble_eq_true rfl) dX6_reportSales_79 rfl ?_
        refine zr_lstore (i := 4) (lv' := [(4, .long x23), (0, .ref p0), (1, .int p1), (2, .long p2)]) C0 dX6_reportSales_82 (by decide) (by first | rfl | simp [zst1, zst2, zcat_rf]) ?_
        refine zr_aload_n C0 dX6_reportSales_84 rfl 1 rfl ?_
        obtain ⟨x24, e25, hf⟩ := zbind hf
        refine zr_get C0 fl_X6_9_X6 dX6_reportSales_85 (zgR e25) ?_
        refine zr_sipush C0 (v := 186) dX6_reportSales_88 (by decide) ?_
        refine zr_iconst C0 (v := 4) dX6_reportSales_91 (by decide) ?_
        refine zr_iload_n C0 dX6_reportSales_92 rfl 2 rfl ?_
        refine zr_imul C0 dX6_reportSales_93 ?_
        refine zr_iadd C0 dX6_reportSales_94 ?_
        refine zr_iconst C0 (v := 3) dX6_reportSales_95 (by decide) ?_
        refine zr_iadd C0 dX6_reportSales_96 ?_
        refine zr_lload_n C0 dX6_reportSales_97 rfl 3 rfl ?_
        obtain ⟨h26, e27, hf⟩ := zbind hf
        refine zr_last C0 dX6_reportSales_98 e27 ?_
        refine zr_lload C0 dX6_reportSales_99 0 rfl ?_
        refine zretW hf ?_
        exact zr_lret C0 rfl dX6_reportSales_101 rfl
      · have hf := zif_t c19 hf
        refine zr_ldc2 C0 (v := -1) q2540 dX6_reportSales_72 ?_
        refine zretW hf ?_
        exact zr_lret C0 rfl dX6_reportSales_75 rfl
    · have hf := zif_f c14 hf
      refine zr_sub [] rfl ?_
      exact w_X6_reportSales_b62 C0 hf
def f_X6_reportSales_b19 (E : zE) (p0 : Nat) (p1 : Int32) (p2 : Int64) (s0 : Nat) (s1 : Int32) (h : zH) : Option (Int64 × zH) :=
  (cko h s0 1).bind fun _ =>
  bnd2 (f_X6_throwsIf E s0 s1 (1 : Int32) h) fun x4 h2 =>
  if x4 = 0 then (
    bnd2 (f_X6_inRange E p2 (0 : Int64) (10000000 : Int64) h2) fun x8 h6 =>
    if x8 = 0 then (
      f_X6_reportSales_b43 E p0 p1 p2 p0 (1 : Int32) h6
    ) else (
      f_X6_reportSales_b43 E p0 p1 p2 p0 (0 : Int32) h6
    )
  ) else (
    f_X6_reportSales_b62 E  h2
  )
theorem w_X6_reportSales_b19 (C0 : zCx p l e R s m args below meth c D B0 6 "FranchiseLedgerModel" cX6_reportSales E 3 106 (Option.some Jvm.ClassFile.FieldType.long) "reportSales") {r : Int64} {h' : zH} {p0 : Nat} {p1 : Int32} {p2 : Int64} {s0 : Nat} {s1 : Int32} {h : zH} (hf : f_X6_reportSales_b19 E p0 p1 p2 s0 s1 h = some (r, h')) : zW p l e R s m args below meth c D B0 6 (zEnd D B0 R below args s (zoL r) h') h 19 [(0, .ref p0), (1, .int p1), (2, .long p2)] [.int s1, .ref s0] := by
  unfold f_X6_reportSales_b19 at hf
  refine zr_iconst C0 (v := 1) dX6_reportSales_19 (by decide) ?_
  obtain ⟨_, e1, hf⟩ := zbind hf
  obtain ⟨x4, h2, e3, hf⟩ := zbind2 hf
  refine zr_callV_r C0 cv_X6_81_X6 rfl (zcko e1) (m_X6_throwsIf C0.2.2.2.2.2.2.1 e3) (by decide) (by decide) rfl rfl (Nat.le_of_ble_eq_true rfl) dX6_reportSales_20 rfl ?_
  refine zr_if_ne C0 (tgt := 62) dX6_reportSales_23 (by decide) (fun c5 => ?_) (fun c5 => ?_)
  · have hf := zif_f c5 hf
    refine zr_sub [] rfl ?_
    exact w_X6_reportSales_b62 C0 hf
  · have hf := zif_t c5 hf
    refine zr_aload_n C0 dX6_reportSales_26 rfl 0 rfl ?_
    refine zr_lload_n C0 dX6_reportSales_27 rfl 2 rfl ?_
    refine zr_lconst C0 (v := 0) dX6_reportSales_28 (by decide) ?_
    refine zr_ldc2 C0 (v := 10000000) q2844 dX6_reportSales_29 ?_
    obtain ⟨x8, h6, e7, hf⟩ := zbind2 hf
    refine zr_callS_r C0 cv_X6_53 (m_X6_inRange C0.2.2.2.2.2.2.1 e7) (by decide) (by decide) rfl rfl (Nat.le_of_ble_eq_true rfl) dX6_reportSales_32 rfl ?_
    refine zr_if_ne C0 (tgt := 42) dX6_reportSales_35 (by decide) (fun c9 => ?_) (fun c9 => ?_)
    · have hf := zif_f c9 hf
      refine zr_iconst C0 (v := 0) dX6_reportSales_42 (by decide) ?_
      exact w_X6_reportSales_b43 C0 hf
    · have hf := zif_t c9 hf
      refine zr_iconst C0 (v := 1) dX6_reportSales_38 (by decide) ?_
      refine zr_goto C0 (tgt := 43) dX6_reportSales_39 (by decide) ?_
      exact w_X6_reportSales_b43 C0 hf
def f_X6_reportSales_b0 (E : zE) (p0 : Nat) (p1 : Int32) (p2 : Int64) (h : zH) : Option (Int64 × zH) :=
  (pF h p0 1 2 (.int (0 : Int32))).bind fun h1 =>
  (cko h1 p0 1).bind fun _ =>
  bnd2 (f_X6_isOutlet E p0 p1 h1) fun x6 h4 =>
  if x6 = 0 then (
    f_X6_reportSales_b19 E p0 p1 p2 p0 (1 : Int32) h4
  ) else (
    f_X6_reportSales_b19 E p0 p1 p2 p0 (0 : Int32) h4
  )
theorem w_X6_reportSales_b0 (C0 : zCx p l e R s m args below meth c D B0 6 "FranchiseLedgerModel" cX6_reportSales E 3 106 (Option.some Jvm.ClassFile.FieldType.long) "reportSales") {r : Int64} {h' : zH} {p0 : Nat} {p1 : Int32} {p2 : Int64} {h : zH} (hf : f_X6_reportSales_b0 E p0 p1 p2 h = some (r, h')) : zW p l e R s m args below meth c D B0 6 (zEnd D B0 R below args s (zoL r) h') h 0 [(0, .ref p0), (1, .int p1), (2, .long p2)] [] := by
  unfold f_X6_reportSales_b0 at hf
  refine zr_aload_n C0 dX6_reportSales_0 rfl 0 rfl ?_
  refine zr_iconst C0 (v := 0) dX6_reportSales_1 (by decide) ?_
  obtain ⟨h1, e2, hf⟩ := zbind hf
  refine zr_put C0 pl_X6_50_X6 dX6_reportSales_2 (fun h => by cases h) rfl rfl e2 ?_
  refine zr_aload_n C0 dX6_reportSales_5 rfl 0 rfl ?_
  refine zr_aload_n C0 dX6_reportSales_6 rfl 0 rfl ?_
  refine zr_iload_n C0 dX6_reportSales_7 rfl 1 rfl ?_
  obtain ⟨_, e3, hf⟩ := zbind hf
  obtain ⟨x6, h4, e5, hf⟩ := zbind2 hf
  refine zr_callV_r C0 cv_X6_141_X6 rfl (zcko e3) (m_X6_isOutlet C0.2.2.2.2.2.2.1 e5) (by decide) (by decide) rfl rfl (Nat.le_of_ble_eq_true rfl) dX6_reportSales_8 rfl ?_
  refine zr_if_ne C0 (tgt := 18) dX6_reportSales_11 (by decide) (fun c7 => ?_) (fun c7 => ?_)
  · have hf := zif_f c7 hf
    refine zr_iconst C0 (v := 0) dX6_reportSales_18 (by decide) ?_
    exact w_X6_reportSales_b19 C0 hf
  · have hf := zif_t c7 hf
    refine zr_iconst C0 (v := 1) dX6_reportSales_14 (by decide) ?_
    refine zr_goto C0 (tgt := 19) dX6_reportSales_15 (by decide) ?_
    exact w_X6_reportSales_b19 C0 hf
def f_X6_reportSales (E : zE) (p0 : Nat) (p1 : Int32) (p2 : Int64) (h : zH) : Option (Int64 × zH) := f_X6_reportSales_b0 E p0 p1 p2 h
theorem m_X6_reportSales {l : Launch} (hst : l.stackTraces = false) {D : zD} {B0 : Nat} {E : zE} {p0 : Nat} {p1 : Int32} {p2 : Int64} {h h' : zH} {r : Int64} (hf : f_X6_reportSales E p0 p1 p2 h = some (r, h')) : zMet l yX6_reportSales (ws_ yX6_reportSales cX6_reportSales 6 (Option.some Jvm.ClassFile.FieldType.long)) 3 106 D B0 E [.ref p0, .int p1, .long p2] h (zoL r) h' := by
  unfold f_X6_reportSales at hf
  refine zMet_of hst (by decide +kernel) rfl rfl (Nat.le_of_ble_eq_true rfl) (fun p e R s m below meth c C0 hno => ?_)
  show zW _ _ _ _ _ _ _ _ _ _ _ _ _ _ _ _ [(0, .ref p0), (1, .int p1), (2, .long p2)] []
  exact w_X6_reportSales_b0 C0 hf
def f_X6_deliver_b71 (E : zE) (h : zH) : Option (Int64 × zH) :=
  some ((0 : Int64), h)
theorem w_X6_deliver_b71 (C0 : zCx p l e R s m args below meth c D B0 8 "FranchiseLedgerModel" cX6_deliver E 3 106 (Option.some Jvm.ClassFile.FieldType.long) "deliver") {r : Int64} {h' : zH} {h : zH} (hf : f_X6_deliver_b71 E  h = some (r, h')) : zW p l e R s m args below meth c D B0 8 (zEnd D B0 R below args s (zoL r) h') h 71 [] [] := by
  unfold f_X6_deliver_b71 at hf
  refine zr_lconst C0 (v := 0) dX6_deliver_71 (by decide) ?_
  refine zretW hf ?_
  exact zr_lret C0 rfl dX6_deliver_72 rfl
def f_X6_deliver_b194 (E : zE) (p0 : Nat) (p1 : Int32) (h : zH) : Option (Int64 × zH) :=
  (cko h p0 1).bind fun _ =>
  bnd2 (f_X6_ofOutlet E p0 p1 (3 : Int32) h) fun x4 h2 =>
  some (x4, h2)
theorem w_X6_deliver_b194 (C0 : zCx p l e R s m args below meth c D B0 8 "FranchiseLedgerModel" cX6_deliver E 3 106 (Option.some Jvm.ClassFile.FieldType.long) "deliver") {r : Int64} {h' : zH} {p0 : Nat} {p1 : Int32} {h : zH} (hf : f_X6_deliver_b194 E p0 p1 h = some (r, h')) : zW p l e R s m args below meth c D B0 8 (zEnd D B0 R below args s (zoL r) h') h 194 [(0, .ref p0), (1, .int p1)] [] := by
  unfold f_X6_deliver_b194 at hf
  refine zr_aload_n C0 dX6_deliver_194 rfl 0 rfl ?_
  refine zr_iload_n C0 dX6_deliver_195 rfl 1 rfl ?_
  refine zr_iconst C0 (v := 3) dX6_deliver_196 (by decide) ?_
  obtain ⟨_, e1, hf⟩ := zbind hf
  obtain ⟨x4, h2, e3, hf⟩ := zbind2 hf
  refine zr_callV_r C0 cv_X6_113_X6 rfl (zcko e1) (m_X6_ofOutlet C0.2.2.2.2.2.2.1 e3) (by decide) (by decide) rfl rfl (Nat.le_of_ble_eq_true rfl) dX6_deliver_197 rfl ?_
  refine zretW hf ?_
  exact zr_lret C0 rfl dX6_deliver_200 rfl
def f_X6_deliver_b52 (E : zE) (p0 : Nat) (p1 : Int32) (p2 : Int32) (p3 : Int32) (p4 : Int64) (s0 : Nat) (s1 : Int32) (h : zH) : Option (Int64 × zH) :=
  (cko h s0 1).bind fun _ =>
  bnd2 (f_X6_throwsIf E s0 s1 (2 : Int32) h) fun x4 h2 =>
  if x4 = 0 then (
    (cko h2 p0 1).bind fun _ =>
    bnd2 (f_X6_isOver E p0 h2) fun x9 h7 =>
    (cko h7 p0 1).bind fun _ =>
    bnd2 (f_X6_throwsIf E p0 x9 (3 : Int32) h7) fun x13 h11 =>
    if x13 = 0 then (
      (cko h11 p0 1).bind fun _ =>
      bnd2 (f_X6_isOpen E p0 p1 h11) fun x18 h16 =>
      if x18 = 0 then (
        some ((-1 : Int64), h16)
      ) else (
        (cko h16 p0 1).bind fun _ =>
        bnd2 (f_X6_ofOutlet E p0 p1 (3 : Int32) h16) fun x23 h21 =>
        if (x23 + p4) ≤ (10000000 : Int64) then (
          (gR h21 p0 1 0).bind fun x25 =>
          (dL h21 x25 (((186 : Int32) + ((4 : Int32) * p1)) + (3 : Int32))).bind fun x27 =>
          (sL h21 x25 (((186 : Int32) + ((4 : Int32) * p1)) + (3 : Int32)) (x27 + p4)).bind fun h29 =>
          (cko h29 p0 1).bind fun _ =>
          bnd2 (f_X6_ofOutlet E p0 p1 (0 : Int32) h29) fun x34 h32 =>
          (cko h32 p0 1).bind fun _ =>
          bnd2 (f_X6_ownerOf E p0 p2 p3 h32) fun x38 h36 =>
          if x38 = (-1 : Int32) then (
            f_X6_deliver_b194 E p0 p1 h36
          ) else (
            if x38 = (x34.toInt32) then (
              f_X6_deliver_b194 E p0 p1 h36
            ) else (
              (cko h36 p0 1).bind fun _ =>
              bnd2 (f_X6_isActive E p0 (x34.toInt32) h36) fun x44 h42 =>
              if x44 = 0 then (
                f_X6_deliver_b194 E p0 p1 h42
              ) else (
                (cko h42 p0 1).bind fun _ =>
                bnd2 (f_X6_isActive E p0 x38 h42) fun x49 h47 =>
                if x49 = 0 then (
                  f_X6_deliver_b194 E p0 p1 h47
                ) else (
                  (gR h47 p0 1 0).bind fun x51 =>
                  (dL h47 x51 (((1150 : Int32) + ((8 : Int32) * (x34.toInt32))) + x38)).bind fun x53 =>
                  (sL h47 x51 (((1150 : Int32) + ((8 : Int32) * (x34.toInt32))) + x38) (x53 + p4)).bind fun h55 =>
                  f_X6_deliver_b194 E p0 p1 h55
                )
              )
            )
          )
        ) else (
          some ((-3 : Int64), h21)
        )
      )
    ) else (
      f_X6_deliver_b71 E  h11
    )
  ) else (
    f_X6_deliver_b71 E  h2
  )
theorem w_X6_deliver_b52 (C0 : zCx p l e R s m args below meth c D B0 8 "FranchiseLedgerModel" cX6_deliver E 3 106 (Option.some Jvm.ClassFile.FieldType.long) "deliver") {r : Int64} {h' : zH} {p0 : Nat} {p1 : Int32} {p2 : Int32} {p3 : Int32} {p4 : Int64} {s0 : Nat} {s1 : Int32} {h : zH} (hf : f_X6_deliver_b52 E p0 p1 p2 p3 p4 s0 s1 h = some (r, h')) : zW p l e R s m args below meth c D B0 8 (zEnd D B0 R below args s (zoL r) h') h 52 [(0, .ref p0), (1, .int p1), (2, .int p2), (3, .int p3), (4, .long p4)] [.int s1, .ref s0] := by
  unfold f_X6_deliver_b52 at hf
  refine zr_iconst C0 (v := 2) dX6_deliver_52 (by decide) ?_
  obtain ⟨_, e1, hf⟩ := zbind hf
  obtain ⟨x4, h2, e3, hf⟩ := zbind2 hf
  refine zr_callV_r C0 cv_X6_81_X6 rfl (zcko e1) (m_X6_throwsIf C0.2.2.2.2.2.2.1 e3) (by decide) (by decide) rfl rfl (Nat.le_of_ble_eq_true rfl) dX6_deliver_53 rfl ?_
  refine zr_if_ne C0 (tgt := 71) dX6_deliver_56 (by decide) (fun c5 => ?_) (fun c5 => ?_)
  · have hf := zif_f c5 hf
    refine zr_sub [] rfl ?_
    exact w_X6_deliver_b71 C0 hf
  · have hf := zif_t c5 hf
    refine zr_aload_n C0 dX6_deliver_59 rfl 0 rfl ?_
    refine zr_aload_n C0 dX6_deliver_60 rfl 0 rfl ?_
    obtain ⟨_, e6, hf⟩ := zbind hf
    obtain ⟨x9, h7, e8, hf⟩ := zbind2 hf
    refine zr_callV_r C0 cv_X6_201_X6 rfl (zcko e6) (m_X6_isOver C0.2.2.2.2.2.2.1 e8) (by decide) (by decide) rfl rfl (Nat.le_of_ble_eq_true rfl) dX6_deliver_61 rfl ?_
    refine zr_iconst C0 (v := 3) dX6_deliver_64 (by decide) ?_
    obtain ⟨_, e10, hf⟩ := zbind hf
    obtain ⟨x13, h11, e12, hf⟩ := zbind2 hf
    refine zr_callV_r C0 cv_X6_81_X6 rfl (zcko e10) (m_X6_throwsIf C0.2.2.2.2.2.2.1 e12) (by decide) (by decide) rfl rfl (Nat.le_of_ble_eq_true rfl) dX6_deliver_65 rfl ?_
    refine zr_if_eq C0 (tgt := 73) dX6_deliver_68 (by decide) (fun c14 => ?_) (fun c14 => ?_)
    · have hf := zif_t c14 hf
      refine zr_aload_n C0 dX6_deliver_73 rfl 0 rfl ?_
      refine zr_iload_n C0 dX6_deliver_74 rfl 1 rfl ?_
      obtain ⟨_, e15, hf⟩ := zbind hf
      obtain ⟨x18, h16, e17, hf⟩ := zbind2 hf
      refine zr_callV_r C0 cv_X6_118_X6 rfl (zcko e15) (m_X6_isOpen C0.2.2.2.2.2.2.1 e17) (by decide) (by decide) rfl rfl (Nat.le_of_ble_eq_true rfl) dX6_deliver_75 rfl ?_
      refine zr_if_ne C0 (tgt := 85) dX6_deliver_78 (by decide) (fun c19 => ?_) (fun c19 => ?_)
      · have hf := zif_f c19 hf
        refine zr_aload_n C0 dX6_deliver_85 rfl 0 rfl ?_
        refine zr_iload_n C0 dX6_deliver_86 rfl 1 rfl ?_
        refine zr_iconst C0 (v := 3) dX6_deliver_87 (by decide) ?_
        obtain ⟨_, e20, hf⟩ := zbind hf
        obtain ⟨x23, h21, e22, hf⟩ := zbind2 hf
        refine zr_callV_r C0 cv_X6_113_X6 rfl (zcko e20) (m_X6_ofOutlet C0.2.2.2.2.2.2.1 e22) (by decide) (by decide) rfl rfl (Nat.le_of_ble_eq_true rfl) dX6_deliver_88 rfl ?_
        refine zr_lload C0 dX6_deliver_91 4 rfl ?_
        refine zr_ladd C0 dX6_deliver_93 ?_
        refine zr_ldc2 C0 (v := 10000000) q2844 dX6_deliver_94 ?_
        refine zr_lcmp C0 dX6_deliver_97 ?_
        refine zr_if_le C0 (tgt := 105) dX6_deliver_98 (by decide) (fun c24 => ?_) (fun c24 => ?_)
        · have hf := zif_t (zl_le.mp c24) hf
          refine zr_aload_n C0 dX6_deliver_105 rfl 0 rfl ?_
          obtain ⟨x25, e26, hf⟩ := zbind hf
          refine zr_get C0 fl_X6_9_X6 dX6_deliver_106 (zgR e26) ?_
          refine zr_sipush C0 (v := 186) dX6_deliver_109 (by decide) ?_
          refine zr_iconst C0 (v := 4) dX6_deliver_112 (by decide) ?_
          refine zr_iload_n C0 dX6_deliver_113 rfl 1 rfl ?_
          refine zr_imul C0 dX6_deliver_114 ?_
          refine zr_iadd C0 dX6_deliver_115 ?_
          refine zr_iconst C0 (v := 3) dX6_deliver_116 (by decide) ?_
          refine zr_iadd C0 dX6_deliver_117 ?_
          refine zr_dup2_11 C0 dX6_deliver_118 rfl rfl ?_
          obtain ⟨x27, e28, hf⟩ := zbind hf
          refine zr_lald C0 dX6_deliver_119 e28 ?_
          refine zr_lload C0 dX6_deliver_120 4 rfl ?_
          refine zr_ladd C0 dX6_deliver_122 ?_
          obtain ⟨h29, e30, hf⟩ := zbind hf
          refine zr_last C0 dX6_deliver_123 e30 ?_
          refine zr_aload_n C0 dX6_deliver_124 rfl 0 rfl ?_
          refine zr_iload_n C0 dX6_deliver_125 rfl 1 rfl ?_
          refine zr_iconst C0 (v := 0) dX6_deliver_126 (by decide) ?_
          obtain ⟨_, e31, hf⟩ := zbind hf
          obtain ⟨x34, h32, e33, hf⟩ := zbind2 hf
          refine zr_callV_r C0 cv_X6_113_X6 rfl (zcko e31) (m_X6_ofOutlet C0.2.2.2.2.2.2.1 e33) (by decide) (by decide) rfl rfl (Nat.le_of_ble_eq_true rfl) dX6_deliver_127 rfl ?_
          refine zr_l2i C0 dX6_deliver_130 ?_
          refine zr_istore (i := 6) (lv' := [(6, .int (x34.toInt32)), (0, .ref p0), (1, .int p1), (2, .int p2), (3, .int p3), (4, .long p4)]) C0 dX6_deliver_131 (by decide) (by first | rfl | simp [zst1, zst2, zcat_rf]) ?_
          refine zr_aload_n C0 dX6_deliver_133 rfl 1 rfl ?_
          refine zr_iload_n C0 dX6_deliver_134 rfl 3 rfl ?_
          refine zr_iload_n C0 dX6_deliver_135 rfl 4 rfl ?_
          obtain ⟨_, e35, hf⟩ := zbind hf
          obtain ⟨x38, h36, e37, hf⟩ := zbind2 hf
          refine zr_callV_r C0 cv_X6_71_X6 rfl (zcko e35) (m_X6_ownerOf C0.2.2.2.2.2.2.1 e37) (by decide) (by decide) rfl rfl (Nat.le_of_ble_eq_true rfl) dX6_deliver_136 rfl ?_
          refine zr_istore (i := 7) (lv' := [(7, .int x38), (6, .int (x34.toInt32)), (0, .ref p0), (1, .int p1), (2, .int p2), (3, .int p3), (4, .long p4)]) C0 dX6_deliver_139 (by decide) (by first | rfl | simp [zst1, zst2, zcat_rf]) ?_
          refine zr_iload C0 dX6_deliver_141 0 rfl ?_
          refine zr_iconst C0 (v := -1) dX6_deliver_143 (by decide) ?_
          refine zr_icmp_eq C0 (tgt := 194) dX6_deliver_144 (by decide) (fun c39 => ?_) (fun c39 => ?_)
          · have hf := zif_t c39 hf
            refine zr_sub [2, 3] rfl ?_
            exact w_X6_deliver_b194 C0 hf
          · have hf := zif_f c39 hf
            refine zr_iload C0 dX6_deliver_147 0 rfl ?_
            refine zr_iload C0 dX6_deliver_149 1 rfl ?_
            refine zr_icmp_eq C0 (tgt := 194) dX6_deliver_151 (by decide) (fun c40 => ?_) (fun c40 => ?_)
            · have hf := zif_t c40 hf
              refine zr_sub [2, 3] rfl ?_
              exact w_X6_deliver_b194 C0 hf
            · have hf := zif_f c40 hf
              refine zr_aload_n C0 dX6_deliver_154 rfl 2 rfl ?_
              refine zr_iload C0 dX6_deliver_155 1 rfl ?_
              obtain ⟨_, e41, hf⟩ := zbind hf
              obtain ⟨x44, h42, e43, hf⟩ := zbind2 hf
              refine zr_callV_r C0 cv_X6_128_X6 rfl (zcko e41) (m_X6_isActive C0.2.2.2.2.2.2.1 e43) (by decide) (by decide) rfl rfl (Nat.le_of_ble_eq_true rfl) dX6_deliver_157 rfl ?_
              refine zr_if_eq C0 (tgt := 194) dX6_deliver_160 (by decide) (fun c45 => ?_) (fun c45 => ?_)
              · have hf := zif_t c45 hf
                refine zr_sub [2, 3] rfl ?_
                exact w_X6_deliver_b194 C0 hf
              · have hf := zif_f c45 hf
                refine zr_aload_n C0 dX6_deliver_163 rfl 2 rfl ?_
                refine zr_iload C0 dX6_deliver_164 0 rfl ?_
                obtain ⟨_, e46, hf⟩ := zbind hf
                obtain ⟨x49, h47, e48, hf⟩ := zbind2 hf
                refine zr_callV_r C0 cv_X6_128_X6 rfl (zcko e46) (m_X6_isActive C0.2.2.2.2.2.2.1 e48) (by decide) (by decide) rfl rfl (Nat.le_of_ble_eq_true rfl) dX6_deliver_166 rfl ?_
                refine zr_if_eq C0 (tgt := 194) dX6_deliver_169 (by decide) (fun c50 => ?_) (fun c50 => ?_)
                · have hf := zif_t c50 hf
                  refine zr_sub [2, 3] rfl ?_
                  exact w_X6_deliver_b194 C0 hf
                · have hf := zif_f c50 hf
                  refine zr_aload_n C0 dX6_deliver_172 rfl 2 rfl ?_
                  obtain ⟨x51, e52, hf⟩ := zbind hf
                  refine zr_get C0 fl_X6_9_X6 dX6_deliver_173 (zgR e52) ?_
                  refine zr_sipush C0 (v := 1150) dX6_deliver_176 (by decide) ?_
                  refine zr_bipush C0 (v := 8) dX6_deliver_179 (by decide) ?_
                  refine zr_iload C0 dX6_deliver_181 1 rfl ?_
                  refine zr_imul C0 dX6_deliver_183 ?_
                  refine zr_iadd C0 dX6_deliver_184 ?_
                  refine zr_iload C0 dX6_deliver_185 0 rfl ?_
                  refine zr_iadd C0 dX6_deliver_187 ?_
                  refine zr_dup2_11 C0 dX6_deliver_188 rfl rfl ?_
                  obtain ⟨x53, e54, hf⟩ := zbind hf
                  refine zr_lald C0 dX6_deliver_189 e54 ?_
                  refine zr_lload C0 dX6_deliver_190 6 rfl ?_
                  refine zr_ladd C0 dX6_deliver_192 ?_
                  obtain ⟨h55, e56, hf⟩ := zbind hf
                  refine zr_last C0 dX6_deliver_193 e56 ?_
                  refine zr_sub [2, 3] rfl ?_
                  exact w_X6_deliver_b194 C0 hf
        · have hf := zif_f (zl_len.mp c24) hf
          refine zr_ldc2 C0 (v := -3) q2854 dX6_deliver_101 ?_
          refine zretW hf ?_
          exact zr_lret C0 rfl dX6_deliver_104 rfl
      · have hf := zif_t c19 hf
        refine zr_ldc2 C0 (v := -1) q2540 dX6_deliver_81 ?_
        refine zretW hf ?_
        exact zr_lret C0 rfl dX6_deliver_84 rfl
    · have hf := zif_f c14 hf
      refine zr_sub [] rfl ?_
      exact w_X6_deliver_b71 C0 hf
def f_X6_deliver_b47 (E : zE) (p0 : Nat) (p1 : Int32) (p2 : Int32) (p3 : Int32) (p4 : Int64) (s0 : Nat) (h : zH) : Option (Int64 × zH) :=
  f_X6_deliver_b52 E p0 p1 p2 p3 p4 s0 (1 : Int32) h
theorem w_X6_deliver_b47 (C0 : zCx p l e R s m args below meth c D B0 8 "FranchiseLedgerModel" cX6_deliver E 3 106 (Option.some Jvm.ClassFile.FieldType.long) "deliver") {r : Int64} {h' : zH} {p0 : Nat} {p1 : Int32} {p2 : Int32} {p3 : Int32} {p4 : Int64} {s0 : Nat} {h : zH} (hf : f_X6_deliver_b47 E p0 p1 p2 p3 p4 s0 h = some (r, h')) : zW p l e R s m args below meth c D B0 8 (zEnd D B0 R below args s (zoL r) h') h 47 [(0, .ref p0), (1, .int p1), (2, .int p2), (3, .int p3), (4, .long p4)] [.ref s0] := by
  unfold f_X6_deliver_b47 at hf
  refine zr_iconst C0 (v := 1) dX6_deliver_47 (by decide) ?_
  refine zr_goto C0 (tgt := 52) dX6_deliver_48 (by decide) ?_
  exact w_X6_deliver_b52 C0 hf
def f_X6_deliver_b19 (E : zE) (p0 : Nat) (p1 : Int32) (p2 : Int32) (p3 : Int32) (p4 : Int64) (s0 : Nat) (s1 : Int32) (h : zH) : Option (Int64 × zH) :=
  (cko h s0 1).bind fun _ =>
  bnd2 (f_X6_throwsIf E s0 s1 (1 : Int32) h) fun x4 h2 =>
  if x4 = 0 then (
    bnd2 (f_X6_isCell E p2 p3 h2) fun x8 h6 =>
    if x8 = 0 then (
      f_X6_deliver_b47 E p0 p1 p2 p3 p4 p0 h6
    ) else (
      bnd2 (f_X6_inRange E p4 (1 : Int64) (10000000 : Int64) h6) fun x12 h10 =>
      if x12 = 0 then (
        f_X6_deliver_b47 E p0 p1 p2 p3 p4 p0 h10
      ) else (
        f_X6_deliver_b52 E p0 p1 p2 p3 p4 p0 (0 : Int32) h10
      )
    )
  ) else (
    f_X6_deliver_b71 E  h2
  )
theorem w_X6_deliver_b19 (C0 : zCx p l e R s m args below meth c D B0 8 "FranchiseLedgerModel" cX6_deliver E 3 106 (Option.some Jvm.ClassFile.FieldType.long) "deliver") {r : Int64} {h' : zH} {p0 : Nat} {p1 : Int32} {p2 : Int32} {p3 : Int32} {p4 : Int64} {s0 : Nat} {s1 : Int32} {h : zH} (hf : f_X6_deliver_b19 E p0 p1 p2 p3 p4 s0 s1 h = some (r, h')) : zW p l e R s m args below meth c D B0 8 (zEnd D B0 R below args s (zoL r) h') h 19 [(0, .ref p0), (1, .int p1), (2, .int p2), (3, .int p3), (4, .long p4)] [.int s1, .ref s0] := by
  unfold f_X6_deliver_b19 at hf
  refine zr_iconst C0 (v := 1) dX6_deliver_19 (by decide) ?_
  obtain ⟨_, e1, hf⟩ := zbind hf
  obtain ⟨x4, h2, e3, hf⟩ := zbind2 hf
  refine zr_callV_r C0 cv_X6_81_X6 rfl (zcko e1) (m_X6_throwsIf C0.2.2.2.2.2.2.1 e3) (by decide) (by decide) rfl rfl (Nat.le_of_ble_eq_true rfl) dX6_deliver_20 rfl ?_
  refine zr_if_ne C0 (tgt := 71) dX6_deliver_23 (by decide) (fun c5 => ?_) (fun c5 => ?_)
  · have hf := zif_f c5 hf
    refine zr_sub [] rfl ?_
    exact w_X6_deliver_b71 C0 hf
  · have hf := zif_t c5 hf
    refine zr_aload_n C0 dX6_deliver_26 rfl 0 rfl ?_
    refine zr_iload_n C0 dX6_deliver_27 rfl 2 rfl ?_
    refine zr_iload_n C0 dX6_deliver_28 rfl 3 rfl ?_
    obtain ⟨x8, h6, e7, hf⟩ := zbind2 hf
    refine zr_callS_r C0 cv_X6_67 (m_X6_isCell C0.2.2.2.2.2.2.1 e7) (by decide) (by decide) rfl rfl (Nat.le_of_ble_eq_true rfl) dX6_deliver_29 rfl ?_
    refine zr_if_eq C0 (tgt := 47) dX6_deliver_32 (by decide) (fun c9 => ?_) (fun c9 => ?_)
    · have hf := zif_t c9 hf
      exact w_X6_deliver_b47 C0 hf
    · have hf := zif_f c9 hf
      refine zr_lload C0 dX6_deliver_35 4 rfl ?_
      refine zr_lconst C0 (v := 1) dX6_deliver_37 (by decide) ?_
      refine zr_ldc2 C0 (v := 10000000) q2844 dX6_deliver_38 ?_
      obtain ⟨x12, h10, e11, hf⟩ := zbind2 hf
      refine zr_callS_r C0 cv_X6_53 (m_X6_inRange C0.2.2.2.2.2.2.1 e11) (by decide) (by decide) rfl rfl (Nat.le_of_ble_eq_true rfl) dX6_deliver_41 rfl ?_
      refine zr_if_ne C0 (tgt := 51) dX6_deliver_44 (by decide) (fun c13 => ?_) (fun c13 => ?_)
      · have hf := zif_f c13 hf
        refine zr_iconst C0 (v := 0) dX6_deliver_51 (by decide) ?_
        exact w_X6_deliver_b52 C0 hf
      · have hf := zif_t c13 hf
        exact w_X6_deliver_b47 C0 hf
def f_X6_deliver_b0 (E : zE) (p0 : Nat) (p1 : Int32) (p2 : Int32) (p3 : Int32) (p4 : Int64) (h : zH) : Option (Int64 × zH) :=
  (pF h p0 1 2 (.int (0 : Int32))).bind fun h1 =>
  (cko h1 p0 1).bind fun _ =>
  bnd2 (f_X6_isOutlet E p0 p1 h1) fun x6 h4 =>
  if x6 = 0 then (
    f_X6_deliver_b19 E p0 p1 p2 p3 p4 p0 (1 : Int32) h4
  ) else (
    f_X6_deliver_b19 E p0 p1 p2 p3 p4 p0 (0 : Int32) h4
  )
theorem w_X6_deliver_b0 (C0 : zCx p l e R s m args below meth c D B0 8 "FranchiseLedgerModel" cX6_deliver E 3 106 (Option.some Jvm.ClassFile.FieldType.long) "deliver") {r : Int64} {h' : zH} {p0 : Nat} {p1 : Int32} {p2 : Int32} {p3 : Int32} {p4 : Int64} {h : zH} (hf : f_X6_deliver_b0 E p0 p1 p2 p3 p4 h = some (r, h')) : zW p l e R s m args below meth c D B0 8 (zEnd D B0 R below args s (zoL r) h') h 0 [(0, .ref p0), (1, .int p1), (2, .int p2), (3, .int p3), (4, .long p4)] [] := by
  unfold f_X6_deliver_b0 at hf
  refine zr_aload_n C0 dX6_deliver_0 rfl 0 rfl ?_
  refine zr_iconst C0 (v := 0) dX6_deliver_1 (by decide) ?_
  obtain ⟨h1, e2, hf⟩ := zbind hf
  refine zr_put C0 pl_X6_50_X6 dX6_deliver_2 (fun h => by cases h) rfl rfl e2 ?_
  refine zr_aload_n C0 dX6_deliver_5 rfl 0 rfl ?_
  refine zr_aload_n C0 dX6_deliver_6 rfl 0 rfl ?_
  refine zr_iload_n C0 dX6_deliver_7 rfl 1 rfl ?_
  obtain ⟨_, e3, hf⟩ := zbind hf
  obtain ⟨x6, h4, e5, hf⟩ := zbind2 hf
  refine zr_callV_r C0 cv_X6_141_X6 rfl (zcko e3) (m_X6_isOutlet C0.2.2.2.2.2.2.1 e5) (by decide) (by decide) rfl rfl (Nat.le_of_ble_eq_true rfl) dX6_deliver_8 rfl ?_
  refine zr_if_ne C0 (tgt := 18) dX6_deliver_11 (by decide) (fun c7 => ?_) (fun c7 => ?_)
  · have hf := zif_f c7 hf
    refine zr_iconst C0 (v := 0) dX6_deliver_18 (by decide) ?_
    exact w_X6_deliver_b19 C0 hf
  · have hf := zif_t c7 hf
    refine zr_iconst C0 (v := 1) dX6_deliver_14 (by decide) ?_
    refine zr_goto C0 (tgt := 19) dX6_deliver_15 (by decide) ?_
    exact w_X6_deliver_b19 C0 hf
def f_X6_deliver (E : zE) (p0 : Nat) (p1 : Int32) (p2 : Int32) (p3 : Int32) (p4 : Int64) (h : zH) : Option (Int64 × zH) := f_X6_deliver_b0 E p0 p1 p2 p3 p4 h
theorem m_X6_deliver {l : Launch} (hst : l.stackTraces = false) {D : zD} {B0 : Nat} {E : zE} {p0 : Nat} {p1 : Int32} {p2 : Int32} {p3 : Int32} {p4 : Int64} {h h' : zH} {r : Int64} (hf : f_X6_deliver E p0 p1 p2 p3 p4 h = some (r, h')) : zMet l yX6_deliver (ws_ yX6_deliver cX6_deliver 8 (Option.some Jvm.ClassFile.FieldType.long)) 3 106 D B0 E [.ref p0, .int p1, .int p2, .int p3, .long p4] h (zoL r) h' := by
  unfold f_X6_deliver at hf
  refine zMet_of hst (by decide +kernel) rfl rfl (Nat.le_of_ble_eq_true rfl) (fun p e R s m below meth c C0 hno => ?_)
  show zW _ _ _ _ _ _ _ _ _ _ _ _ _ _ _ _ [(0, .ref p0), (1, .int p1), (2, .int p2), (3, .int p3), (4, .long p4)] []
  exact w_X6_deliver_b0 C0 hf
def f_X6_sales_b36 (E : zE) (s0 : Int64) (h : zH) : Option (Int64 × zH) :=
  some (s0, h)
theorem w_X6_sales_b36 (C0 : zCx p l e R s m args below meth c D B0 2 "FranchiseLedgerModel" cX6_sales E 3 106 (Option.some Jvm.ClassFile.FieldType.long) "sales") {r : Int64} {h' : zH} {s0 : Int64} {h : zH} (hf : f_X6_sales_b36 E s0 h = some (r, h')) : zW p l e R s m args below meth c D B0 2 (zEnd D B0 R below args s (zoL r) h') h 36 [] [.long s0] := by
  unfold f_X6_sales_b36 at hf
  refine zretW hf ?_
  exact zr_lret C0 rfl dX6_sales_36 rfl
def f_X6_sales_b19 (E : zE) (p0 : Nat) (p1 : Int32) (s0 : Nat) (s1 : Int32) (h : zH) : Option (Int64 × zH) :=
  (cko h s0 1).bind fun _ =>
  bnd2 (f_X6_throwsIf E s0 s1 (1 : Int32) h) fun x4 h2 =>
  if x4 = 0 then (
    (cko h2 p0 1).bind fun _ =>
    bnd2 (f_X6_ofOutlet E p0 p1 (3 : Int32) h2) fun x9 h7 =>
    f_X6_sales_b36 E x9 h7
  ) else (
    f_X6_sales_b36 E (0 : Int64) h2
  )
theorem w_X6_sales_b19 (C0 : zCx p l e R s m args below meth c D B0 2 "FranchiseLedgerModel" cX6_sales E 3 106 (Option.some Jvm.ClassFile.FieldType.long) "sales") {r : Int64} {h' : zH} {p0 : Nat} {p1 : Int32} {s0 : Nat} {s1 : Int32} {h : zH} (hf : f_X6_sales_b19 E p0 p1 s0 s1 h = some (r, h')) : zW p l e R s m args below meth c D B0 2 (zEnd D B0 R below args s (zoL r) h') h 19 [(0, .ref p0), (1, .int p1)] [.int s1, .ref s0] := by
  unfold f_X6_sales_b19 at hf
  refine zr_iconst C0 (v := 1) dX6_sales_19 (by decide) ?_
  obtain ⟨_, e1, hf⟩ := zbind hf
  obtain ⟨x4, h2, e3, hf⟩ := zbind2 hf
  refine zr_callV_r C0 cv_X6_81_X6 rfl (zcko e1) (m_X6_throwsIf C0.2.2.2.2.2.2.1 e3) (by decide) (by decide) rfl rfl (Nat.le_of_ble_eq_true rfl) dX6_sales_20 rfl ?_
  refine zr_if_eq C0 (tgt := 30) dX6_sales_23 (by decide) (fun c5 => ?_) (fun c5 => ?_)
  · have hf := zif_t c5 hf
    refine zr_aload_n C0 dX6_sales_30 rfl 0 rfl ?_
    refine zr_iload_n C0 dX6_sales_31 rfl 1 rfl ?_
    refine zr_iconst C0 (v := 3) dX6_sales_32 (by decide) ?_
    obtain ⟨_, e6, hf⟩ := zbind hf
    obtain ⟨x9, h7, e8, hf⟩ := zbind2 hf
    refine zr_callV_r C0 cv_X6_113_X6 rfl (zcko e6) (m_X6_ofOutlet C0.2.2.2.2.2.2.1 e8) (by decide) (by decide) rfl rfl (Nat.le_of_ble_eq_true rfl) dX6_sales_33 rfl ?_
    refine zr_sub [] rfl ?_
    exact w_X6_sales_b36 C0 hf
  · have hf := zif_f c5 hf
    refine zr_lconst C0 (v := 0) dX6_sales_26 (by decide) ?_
    refine zr_goto C0 (tgt := 36) dX6_sales_27 (by decide) ?_
    refine zr_sub [] rfl ?_
    exact w_X6_sales_b36 C0 hf
def f_X6_sales_b0 (E : zE) (p0 : Nat) (p1 : Int32) (h : zH) : Option (Int64 × zH) :=
  (pF h p0 1 2 (.int (0 : Int32))).bind fun h1 =>
  (cko h1 p0 1).bind fun _ =>
  bnd2 (f_X6_isOutlet E p0 p1 h1) fun x6 h4 =>
  if x6 = 0 then (
    f_X6_sales_b19 E p0 p1 p0 (1 : Int32) h4
  ) else (
    f_X6_sales_b19 E p0 p1 p0 (0 : Int32) h4
  )
theorem w_X6_sales_b0 (C0 : zCx p l e R s m args below meth c D B0 2 "FranchiseLedgerModel" cX6_sales E 3 106 (Option.some Jvm.ClassFile.FieldType.long) "sales") {r : Int64} {h' : zH} {p0 : Nat} {p1 : Int32} {h : zH} (hf : f_X6_sales_b0 E p0 p1 h = some (r, h')) : zW p l e R s m args below meth c D B0 2 (zEnd D B0 R below args s (zoL r) h') h 0 [(0, .ref p0), (1, .int p1)] [] := by
  unfold f_X6_sales_b0 at hf
  refine zr_aload_n C0 dX6_sales_0 rfl 0 rfl ?_
  refine zr_iconst C0 (v := 0) dX6_sales_1 (by decide) ?_
  obtain ⟨h1, e2, hf⟩ := zbind hf
  refine zr_put C0 pl_X6_50_X6 dX6_sales_2 (fun h => by cases h) rfl rfl e2 ?_
  refine zr_aload_n C0 dX6_sales_5 rfl 0 rfl ?_
  refine zr_aload_n C0 dX6_sales_6 rfl 0 rfl ?_
  refine zr_iload_n C0 dX6_sales_7 rfl 1 rfl ?_
  obtain ⟨_, e3, hf⟩ := zbind hf
  obtain ⟨x6, h4, e5, hf⟩ := zbind2 hf
  refine zr_callV_r C0 cv_X6_141_X6 rfl (zcko e3) (m_X6_isOutlet C0.2.2.2.2.2.2.1 e5) (by decide) (by decide) rfl rfl (Nat.le_of_ble_eq_true rfl) dX6_sales_8 rfl ?_
  refine zr_if_ne C0 (tgt := 18) dX6_sales_11 (by decide) (fun c7 => ?_) (fun c7 => ?_)
  · have hf := zif_f c7 hf
    refine zr_iconst C0 (v := 0) dX6_sales_18 (by decide) ?_
    exact w_X6_sales_b19 C0 hf
  · have hf := zif_t c7 hf
    refine zr_iconst C0 (v := 1) dX6_sales_14 (by decide) ?_
    refine zr_goto C0 (tgt := 19) dX6_sales_15 (by decide) ?_
    exact w_X6_sales_b19 C0 hf
def f_X6_sales (E : zE) (p0 : Nat) (p1 : Int32) (h : zH) : Option (Int64 × zH) := f_X6_sales_b0 E p0 p1 h
theorem m_X6_sales {l : Launch} (hst : l.stackTraces = false) {D : zD} {B0 : Nat} {E : zE} {p0 : Nat} {p1 : Int32} {h h' : zH} {r : Int64} (hf : f_X6_sales E p0 p1 h = some (r, h')) : zMet l yX6_sales (ws_ yX6_sales cX6_sales 2 (Option.some Jvm.ClassFile.FieldType.long)) 3 106 D B0 E [.ref p0, .int p1] h (zoL r) h' := by
  unfold f_X6_sales at hf
  refine zMet_of hst (by decide +kernel) rfl rfl (Nat.le_of_ble_eq_true rfl) (fun p e R s m below meth c C0 hno => ?_)
  show zW _ _ _ _ _ _ _ _ _ _ _ _ _ _ _ _ [(0, .ref p0), (1, .int p1)] []
  exact w_X6_sales_b0 C0 hf
def f_X6_isClosed_b0 (E : zE) (p0 : Nat) (p1 : Int32) (h : zH) : Option (Int32 × zH) :=
  (gR h p0 1 0).bind fun x1 =>
  (dL h x1 (0 : Int32)).bind fun x3 =>
  bnd2 (f_X6_inRange E (p1.toInt64) (0 : Int64) (x3 - (1 : Int64)) h) fun x7 h5 =>
  (zgd .boolean x7).bind fun _ =>
  some (x7, h5)
theorem w_X6_isClosed_b0 (C0 : zCx p l e R s m args below meth c D B0 2 "FranchiseLedgerModel" cX6_isClosed E 2 85 (Option.some Jvm.ClassFile.FieldType.boolean) "isClosed") {r : Int32} {h' : zH} {p0 : Nat} {p1 : Int32} {h : zH} (hf : f_X6_isClosed_b0 E p0 p1 h = some (r, h')) : zW p l e R s m args below meth c D B0 2 (zEnd D B0 R below args s (zoI r) h') h 0 [(0, .ref p0), (1, .int p1)] [] := by
  unfold f_X6_isClosed_b0 at hf
  refine zr_iload_n C0 dX6_isClosed_0 rfl 1 rfl ?_
  refine zr_i2l C0 dX6_isClosed_1 ?_
  refine zr_lconst C0 (v := 0) dX6_isClosed_2 (by decide) ?_
  refine zr_aload_n C0 dX6_isClosed_3 rfl 0 rfl ?_
  obtain ⟨x1, e2, hf⟩ := zbind hf
  refine zr_get C0 fl_X6_9_X6 dX6_isClosed_4 (zgR e2) ?_
  refine zr_iconst C0 (v := 0) dX6_isClosed_7 (by decide) ?_
  obtain ⟨x3, e4, hf⟩ := zbind hf
  refine zr_lald C0 dX6_isClosed_8 e4 ?_
  refine zr_lconst C0 (v := 1) dX6_isClosed_9 (by decide) ?_
  refine zr_lsub C0 dX6_isClosed_10 ?_
  obtain ⟨x7, h5, e6, hf⟩ := zbind2 hf
  refine zr_callS_r C0 cv_X6_53 (m_X6_inRange C0.2.2.2.2.2.2.1 e6) (by decide) (by decide) rfl rfl (Nat.le_of_ble_eq_true rfl) dX6_isClosed_11 rfl ?_
  obtain ⟨_, e8, hf⟩ := zbind hf
  refine zretW hf ?_
  exact zr_iret C0 (ty := .boolean) rfl (zgd_n e8) dX6_isClosed_14 rfl
def f_X6_isClosed (E : zE) (p0 : Nat) (p1 : Int32) (h : zH) : Option (Int32 × zH) := f_X6_isClosed_b0 E p0 p1 h
theorem m_X6_isClosed {l : Launch} (hst : l.stackTraces = false) {D : zD} {B0 : Nat} {E : zE} {p0 : Nat} {p1 : Int32} {h h' : zH} {r : Int32} (hf : f_X6_isClosed E p0 p1 h = some (r, h')) : zMet l yX6_isClosed (ws_ yX6_isClosed cX6_isClosed 2 (Option.some Jvm.ClassFile.FieldType.boolean)) 2 85 D B0 E [.ref p0, .int p1] h (zoI r) h' := by
  unfold f_X6_isClosed at hf
  refine zMet_of hst (by decide +kernel) rfl rfl (Nat.le_of_ble_eq_true rfl) (fun p e R s m below meth c C0 hno => ?_)
  show zW _ _ _ _ _ _ _ _ _ _ _ _ _ _ _ _ [(0, .ref p0), (1, .int p1)] []
  exact w_X6_isClosed_b0 C0 hf
def f_X6_recorded_b0 (E : zE) (p0 : Nat) (p1 : Int32) (p2 : Int32) (h : zH) : Option (Int64 × zH) :=
  (gR h p0 1 0).bind fun x1 =>
  (dL h x1 (((1214 : Int32) + ((8 : Int32) * p2)) + p1)).bind fun x3 =>
  some (x3, h)
theorem w_X6_recorded_b0 (C0 : zCx p l e R s m args below meth c D B0 3 "FranchiseLedgerModel" cX6_recorded E 1 60 (Option.some Jvm.ClassFile.FieldType.long) "recorded") {r : Int64} {h' : zH} {p0 : Nat} {p1 : Int32} {p2 : Int32} {h : zH} (hf : f_X6_recorded_b0 E p0 p1 p2 h = some (r, h')) : zW p l e R s m args below meth c D B0 3 (zEnd D B0 R below args s (zoL r) h') h 0 [(0, .ref p0), (1, .int p1), (2, .int p2)] [] := by
  unfold f_X6_recorded_b0 at hf
  refine zr_aload_n C0 dX6_recorded_0 rfl 0 rfl ?_
  obtain ⟨x1, e2, hf⟩ := zbind hf
  refine zr_get C0 fl_X6_9_X6 dX6_recorded_1 (zgR e2) ?_
  refine zr_sipush C0 (v := 1214) dX6_recorded_4 (by decide) ?_
  refine zr_bipush C0 (v := 8) dX6_recorded_7 (by decide) ?_
  refine zr_iload_n C0 dX6_recorded_9 rfl 2 rfl ?_
  refine zr_imul C0 dX6_recorded_10 ?_
  refine zr_iadd C0 dX6_recorded_11 ?_
  refine zr_iload_n C0 dX6_recorded_12 rfl 1 rfl ?_
  refine zr_iadd C0 dX6_recorded_13 ?_
  obtain ⟨x3, e4, hf⟩ := zbind hf
  refine zr_lald C0 dX6_recorded_14 e4 ?_
  refine zretW hf ?_
  exact zr_lret C0 rfl dX6_recorded_15 rfl
def f_X6_recorded (E : zE) (p0 : Nat) (p1 : Int32) (p2 : Int32) (h : zH) : Option (Int64 × zH) := f_X6_recorded_b0 E p0 p1 p2 h
theorem m_X6_recorded {l : Launch} (hst : l.stackTraces = false) {D : zD} {B0 : Nat} {E : zE} {p0 : Nat} {p1 : Int32} {p2 : Int32} {h h' : zH} {r : Int64} (hf : f_X6_recorded E p0 p1 p2 h = some (r, h')) : zMet l yX6_recorded (ws_ yX6_recorded cX6_recorded 3 (Option.some Jvm.ClassFile.FieldType.long)) 1 60 D B0 E [.ref p0, .int p1, .int p2] h (zoL r) h' := by
  unfold f_X6_recorded at hf
  refine zMet_of hst (by decide +kernel) rfl rfl (Nat.le_of_ble_eq_true rfl) (fun p e R s m below meth c C0 hno => ?_)
  show zW _ _ _ _ _ _ _ _ _ _ _ _ _ _ _ _ [(0, .ref p0), (1, .int p1), (2, .int p2)] []
  exact w_X6_recorded_b0 C0 hf
def f_X6_salesOf_b57 (E : zE) (s0 : Int64) (h : zH) : Option (Int64 × zH) :=
  some (s0, h)
theorem w_X6_salesOf_b57 (C0 : zCx p l e R s m args below meth c D B0 3 "FranchiseLedgerModel" cX6_salesOf E 3 106 (Option.some Jvm.ClassFile.FieldType.long) "salesOf") {r : Int64} {h' : zH} {s0 : Int64} {h : zH} (hf : f_X6_salesOf_b57 E s0 h = some (r, h')) : zW p l e R s m args below meth c D B0 3 (zEnd D B0 R below args s (zoL r) h') h 57 [] [.long s0] := by
  unfold f_X6_salesOf_b57 at hf
  refine zretW hf ?_
  exact zr_lret C0 rfl dX6_salesOf_57 rfl
def f_X6_salesOf_b47 (E : zE) (h : zH) : Option (Int64 × zH) :=
  f_X6_salesOf_b57 E (0 : Int64) h
theorem w_X6_salesOf_b47 (C0 : zCx p l e R s m args below meth c D B0 3 "FranchiseLedgerModel" cX6_salesOf E 3 106 (Option.some Jvm.ClassFile.FieldType.long) "salesOf") {r : Int64} {h' : zH} {h : zH} (hf : f_X6_salesOf_b47 E  h = some (r, h')) : zW p l e R s m args below meth c D B0 3 (zEnd D B0 R below args s (zoL r) h') h 47 [] [] := by
  unfold f_X6_salesOf_b47 at hf
  refine zr_lconst C0 (v := 0) dX6_salesOf_47 (by decide) ?_
  refine zr_goto C0 (tgt := 57) dX6_salesOf_48 (by decide) ?_
  exact w_X6_salesOf_b57 C0 hf
def f_X6_salesOf_b40 (E : zE) (p0 : Nat) (p1 : Int32) (p2 : Int32) (s0 : Nat) (s1 : Int32) (h : zH) : Option (Int64 × zH) :=
  (cko h s0 1).bind fun _ =>
  bnd2 (f_X6_throwsIf E s0 s1 (2 : Int32) h) fun x4 h2 =>
  if x4 = 0 then (
    (cko h2 p0 1).bind fun _ =>
    bnd2 (f_X6_recorded E p0 p1 p2 h2) fun x9 h7 =>
    f_X6_salesOf_b57 E x9 h7
  ) else (
    f_X6_salesOf_b47 E  h2
  )
theorem w_X6_salesOf_b40 (C0 : zCx p l e R s m args below meth c D B0 3 "FranchiseLedgerModel" cX6_salesOf E 3 106 (Option.some Jvm.ClassFile.FieldType.long) "salesOf") {r : Int64} {h' : zH} {p0 : Nat} {p1 : Int32} {p2 : Int32} {s0 : Nat} {s1 : Int32} {h : zH} (hf : f_X6_salesOf_b40 E p0 p1 p2 s0 s1 h = some (r, h')) : zW p l e R s m args below meth c D B0 3 (zEnd D B0 R below args s (zoL r) h') h 40 [(0, .ref p0), (1, .int p1), (2, .int p2)] [.int s1, .ref s0] := by
  unfold f_X6_salesOf_b40 at hf
  refine zr_iconst C0 (v := 2) dX6_salesOf_40 (by decide) ?_
  obtain ⟨_, e1, hf⟩ := zbind hf
  obtain ⟨x4, h2, e3, hf⟩ := zbind2 hf
  refine zr_callV_r C0 cv_X6_81_X6 rfl (zcko e1) (m_X6_throwsIf C0.2.2.2.2.2.2.1 e3) (by decide) (by decide) rfl rfl (Nat.le_of_ble_eq_true rfl) dX6_salesOf_41 rfl ?_
  refine zr_if_eq C0 (tgt := 51) dX6_salesOf_44 (by decide) (fun c5 => ?_) (fun c5 => ?_)
  · have hf := zif_t c5 hf
    refine zr_aload_n C0 dX6_salesOf_51 rfl 0 rfl ?_
    refine zr_iload_n C0 dX6_salesOf_52 rfl 1 rfl ?_
    refine zr_iload_n C0 dX6_salesOf_53 rfl 2 rfl ?_
    obtain ⟨_, e6, hf⟩ := zbind hf
    obtain ⟨x9, h7, e8, hf⟩ := zbind2 hf
    refine zr_callV_r C0 cv_X6_210_X6 rfl (zcko e6) (m_X6_recorded C0.2.2.2.2.2.2.1 e8) (by decide) (by decide) rfl rfl (Nat.le_of_ble_eq_true rfl) dX6_salesOf_54 rfl ?_
    refine zr_sub [] rfl ?_
    exact w_X6_salesOf_b57 C0 hf
  · have hf := zif_f c5 hf
    refine zr_sub [] rfl ?_
    exact w_X6_salesOf_b47 C0 hf
def f_X6_salesOf_b19 (E : zE) (p0 : Nat) (p1 : Int32) (p2 : Int32) (s0 : Nat) (s1 : Int32) (h : zH) : Option (Int64 × zH) :=
  (cko h s0 1).bind fun _ =>
  bnd2 (f_X6_throwsIf E s0 s1 (1 : Int32) h) fun x4 h2 =>
  if x4 = 0 then (
    (cko h2 p0 1).bind fun _ =>
    bnd2 (f_X6_isClosed E p0 p2 h2) fun x9 h7 =>
    if x9 = 0 then (
      f_X6_salesOf_b40 E p0 p1 p2 p0 (1 : Int32) h7
    ) else (
      f_X6_salesOf_b40 E p0 p1 p2 p0 (0 : Int32) h7
    )
  ) else (
    f_X6_salesOf_b47 E  h2
  )
theorem w_X6_salesOf_b19 (C0 : zCx p l e R s m args below meth c D B0 3 "FranchiseLedgerModel" cX6_salesOf E 3 106 (Option.some Jvm.ClassFile.FieldType.long) "salesOf") {r : Int64} {h' : zH} {p0 : Nat} {p1 : Int32} {p2 : Int32} {s0 : Nat} {s1 : Int32} {h : zH} (hf : f_X6_salesOf_b19 E p0 p1 p2 s0 s1 h = some (r, h')) : zW p l e R s m args below meth c D B0 3 (zEnd D B0 R below args s (zoL r) h') h 19 [(0, .ref p0), (1, .int p1), (2, .int p2)] [.int s1, .ref s0] := by
  unfold f_X6_salesOf_b19 at hf
  refine zr_iconst C0 (v := 1) dX6_salesOf_19 (by decide) ?_
  obtain ⟨_, e1, hf⟩ := zbind hf
  obtain ⟨x4, h2, e3, hf⟩ := zbind2 hf
  refine zr_callV_r C0 cv_X6_81_X6 rfl (zcko e1) (m_X6_throwsIf C0.2.2.2.2.2.2.1 e3) (by decide) (by decide) rfl rfl (Nat.le_of_ble_eq_true rfl) dX6_salesOf_20 rfl ?_
  refine zr_if_ne C0 (tgt := 47) dX6_salesOf_23 (by decide) (fun c5 => ?_) (fun c5 => ?_)
  · have hf := zif_f c5 hf
    refine zr_sub [] rfl ?_
    exact w_X6_salesOf_b47 C0 hf
  · have hf := zif_t c5 hf
    refine zr_aload_n C0 dX6_salesOf_26 rfl 0 rfl ?_
    refine zr_aload_n C0 dX6_salesOf_27 rfl 0 rfl ?_
    refine zr_iload_n C0 dX6_salesOf_28 rfl 2 rfl ?_
    obtain ⟨_, e6, hf⟩ := zbind hf
    obtain ⟨x9, h7, e8, hf⟩ := zbind2 hf
    refine zr_callV_r C0 cv_X6_207_X6 rfl (zcko e6) (m_X6_isClosed C0.2.2.2.2.2.2.1 e8) (by decide) (by decide) rfl rfl (Nat.le_of_ble_eq_true rfl) dX6_salesOf_29 rfl ?_
    refine zr_if_ne C0 (tgt := 39) dX6_salesOf_32 (by decide) (fun c10 => ?_) (fun c10 => ?_)
    · have hf := zif_f c10 hf
      refine zr_iconst C0 (v := 0) dX6_salesOf_39 (by decide) ?_
      exact w_X6_salesOf_b40 C0 hf
    · have hf := zif_t c10 hf
      refine zr_iconst C0 (v := 1) dX6_salesOf_35 (by decide) ?_
      refine zr_goto C0 (tgt := 40) dX6_salesOf_36 (by decide) ?_
      exact w_X6_salesOf_b40 C0 hf
def f_X6_salesOf_b0 (E : zE) (p0 : Nat) (p1 : Int32) (p2 : Int32) (h : zH) : Option (Int64 × zH) :=
  (pF h p0 1 2 (.int (0 : Int32))).bind fun h1 =>
  (cko h1 p0 1).bind fun _ =>
  bnd2 (f_X6_isFranchisee E p0 p1 h1) fun x6 h4 =>
  if x6 = 0 then (
    f_X6_salesOf_b19 E p0 p1 p2 p0 (1 : Int32) h4
  ) else (
    f_X6_salesOf_b19 E p0 p1 p2 p0 (0 : Int32) h4
  )
theorem w_X6_salesOf_b0 (C0 : zCx p l e R s m args below meth c D B0 3 "FranchiseLedgerModel" cX6_salesOf E 3 106 (Option.some Jvm.ClassFile.FieldType.long) "salesOf") {r : Int64} {h' : zH} {p0 : Nat} {p1 : Int32} {p2 : Int32} {h : zH} (hf : f_X6_salesOf_b0 E p0 p1 p2 h = some (r, h')) : zW p l e R s m args below meth c D B0 3 (zEnd D B0 R below args s (zoL r) h') h 0 [(0, .ref p0), (1, .int p1), (2, .int p2)] [] := by
  unfold f_X6_salesOf_b0 at hf
  refine zr_aload_n C0 dX6_salesOf_0 rfl 0 rfl ?_
  refine zr_iconst C0 (v := 0) dX6_salesOf_1 (by decide) ?_
  obtain ⟨h1, e2, hf⟩ := zbind hf
  refine zr_put C0 pl_X6_50_X6 dX6_salesOf_2 (fun h => by cases h) rfl rfl e2 ?_
  refine zr_aload_n C0 dX6_salesOf_5 rfl 0 rfl ?_
  refine zr_aload_n C0 dX6_salesOf_6 rfl 0 rfl ?_
  refine zr_iload_n C0 dX6_salesOf_7 rfl 1 rfl ?_
  obtain ⟨_, e3, hf⟩ := zbind hf
  obtain ⟨x6, h4, e5, hf⟩ := zbind2 hf
  refine zr_callV_r C0 cv_X6_85_X6 rfl (zcko e3) (m_X6_isFranchisee C0.2.2.2.2.2.2.1 e5) (by decide) (by decide) rfl rfl (Nat.le_of_ble_eq_true rfl) dX6_salesOf_8 rfl ?_
  refine zr_if_ne C0 (tgt := 18) dX6_salesOf_11 (by decide) (fun c7 => ?_) (fun c7 => ?_)
  · have hf := zif_f c7 hf
    refine zr_iconst C0 (v := 0) dX6_salesOf_18 (by decide) ?_
    exact w_X6_salesOf_b19 C0 hf
  · have hf := zif_t c7 hf
    refine zr_iconst C0 (v := 1) dX6_salesOf_14 (by decide) ?_
    refine zr_goto C0 (tgt := 19) dX6_salesOf_15 (by decide) ?_
    exact w_X6_salesOf_b19 C0 hf
def f_X6_salesOf (E : zE) (p0 : Nat) (p1 : Int32) (p2 : Int32) (h : zH) : Option (Int64 × zH) := f_X6_salesOf_b0 E p0 p1 p2 h
theorem m_X6_salesOf {l : Launch} (hst : l.stackTraces = false) {D : zD} {B0 : Nat} {E : zE} {p0 : Nat} {p1 : Int32} {p2 : Int32} {h h' : zH} {r : Int64} (hf : f_X6_salesOf E p0 p1 p2 h = some (r, h')) : zMet l yX6_salesOf (ws_ yX6_salesOf cX6_salesOf 3 (Option.some Jvm.ClassFile.FieldType.long)) 3 106 D B0 E [.ref p0, .int p1, .int p2] h (zoL r) h' := by
  unfold f_X6_salesOf at hf
  refine zMet_of hst (by decide +kernel) rfl rfl (Nat.le_of_ble_eq_true rfl) (fun p e R s m below meth c C0 hno => ?_)
  show zW _ _ _ _ _ _ _ _ _ _ _ _ _ _ _ _ [(0, .ref p0), (1, .int p1), (2, .int p2)] []
  exact w_X6_salesOf_b0 C0 hf
def f_X6_recordedInAll_l5 (E : zE) : Nat → Nat → Int32 → Int64 → Int32 → zH → Option (Int64 × zH)
  | 0, _, _, _, _, _ => none
  | n + 1, p0, p1, p2, p4, h =>
    (gR h p0 1 0).bind fun x1 =>
    (dL h x1 (0 : Int32)).bind fun x3 =>
    if x3 ≤ (p4.toInt64) then (
      some (p2, h)
    ) else (
      (cko h p0 1).bind fun _ =>
      bnd2 (f_X6_recorded E p0 p1 p4 h) fun x9 h7 =>
      f_X6_recordedInAll_l5 E n p0 p1 (p2 + x9) (p4 + 1) h7
    )
theorem w_X6_recordedInAll_l5 (C0 : zCx p l e R s m args below meth c D B0 5 "FranchiseLedgerModel" cX6_recordedInAll E 2 82 (Option.some Jvm.ClassFile.FieldType.long) "recordedInAll") {r : Int64} {h' : zH} : ∀ (n : Nat) (p0 : Nat) (p1 : Int32) (p2 : Int64) (p4 : Int32) (h : zH), f_X6_recordedInAll_l5 E n p0 p1 p2 p4 h = some (r, h') → zW p l e R s m args below meth c D B0 5 (zEnd D B0 R below args s (zoL r) h') h 5 [(0, .ref p0), (1, .int p1), (2, .long p2), (4, .int p4)] [] := by
  intro n
  induction n with
  | zero =>
    intro p0 p1 p2 p4 h hf
    unfold f_X6_recordedInAll_l5 at hf
    cases hf
  | succ n ih =>
    intro p0 p1 p2 p4 h hf
    unfold f_X6_recordedInAll_l5 at hf
    refine zr_iload C0 dX6_recordedInAll_5 3 rfl ?_
    refine zr_i2l C0 dX6_recordedInAll_7 ?_
    refine zr_aload_n C0 dX6_recordedInAll_8 rfl 0 rfl ?_
    obtain ⟨x1, e2, hf⟩ := zbind hf
    refine zr_get C0 fl_X6_9_X6 dX6_recordedInAll_9 (zgR e2) ?_
    refine zr_iconst C0 (v := 0) dX6_recordedInAll_12 (by decide) ?_
    obtain ⟨x3, e4, hf⟩ := zbind hf
    refine zr_lald C0 dX6_recordedInAll_13 e4 ?_
    refine zr_lcmp C0 dX6_recordedInAll_14 ?_
    refine zr_if_ge C0 (tgt := 34) dX6_recordedInAll_15 (by decide) (fun c5 => ?_) (fun c5 => ?_)
    · have hf := zif_t (zl_ge.mp c5) hf
      refine zr_lload_n C0 dX6_recordedInAll_34 rfl 2 rfl ?_
      refine zretW hf ?_
      exact zr_lret C0 rfl dX6_recordedInAll_35 rfl
    · have hf := zif_f (zl_gen.mp c5) hf
      refine zr_lload_n C0 dX6_recordedInAll_18 rfl 2 rfl ?_
      refine zr_aload_n C0 dX6_recordedInAll_19 rfl 0 rfl ?_
      refine zr_iload_n C0 dX6_recordedInAll_20 rfl 1 rfl ?_
      refine zr_iload C0 dX6_recordedInAll_21 3 rfl ?_
      obtain ⟨_, e6, hf⟩ := zbind hf
      obtain ⟨x9, h7, e8, hf⟩ := zbind2 hf
      refine zr_callV_r C0 cv_X6_210_X6 rfl (zcko e6) (m_X6_recorded C0.2.2.2.2.2.2.1 e8) (by decide) (by decide) rfl rfl (Nat.le_of_ble_eq_true rfl) dX6_recordedInAll_23 rfl ?_
      refine zr_ladd C0 dX6_recordedInAll_26 ?_
      refine zr_lstore_n (i := 2) (lv' := [(2, .long (p2 + x9)), (0, .ref p0), (1, .int p1), (4, .int p4)]) C0 dX6_recordedInAll_27 rfl (by decide) (by first | rfl | simp [zst1, zst2, zcat_rf]) ?_
      refine zr_iinc (lv' := [(4, .int (p4 + 1)), (2, .long (p2 + x9)), (0, .ref p0), (1, .int p1)]) C0 dX6_recordedInAll_28 3 rfl rfl (by decide) (by first | rfl | simp [zst1, zst2, zcat_rf]) ?_
      refine zr_goto C0 (tgt := 5) dX6_recordedInAll_31 (by decide) ?_
      refine zr_sub [2, 3, 1, 0] rfl ?_
      exact ih _ _ _ _ _ hf
def f_X6_recordedInAll_b0 (E : zE) (p0 : Nat) (p1 : Int32) (h : zH) : Option (Int64 × zH) :=
  f_X6_recordedInAll_l5 E E.1 p0 p1 (0 : Int64) (0 : Int32) h
theorem w_X6_recordedInAll_b0 (C0 : zCx p l e R s m args below meth c D B0 5 "FranchiseLedgerModel" cX6_recordedInAll E 2 82 (Option.some Jvm.ClassFile.FieldType.long) "recordedInAll") {r : Int64} {h' : zH} {p0 : Nat} {p1 : Int32} {h : zH} (hf : f_X6_recordedInAll_b0 E p0 p1 h = some (r, h')) : zW p l e R s m args below meth c D B0 5 (zEnd D B0 R below args s (zoL r) h') h 0 [(0, .ref p0), (1, .int p1)] [] := by
  unfold f_X6_recordedInAll_b0 at hf
  refine zr_lconst C0 (v := 0) dX6_recordedInAll_0 (by decide) ?_
  refine zr_lstore_n (i := 2) (lv' := [(2, .long (0 : Int64)), (0, .ref p0), (1, .int p1)]) C0 dX6_recordedInAll_1 rfl (by decide) (by first | rfl | simp [zst1, zst2, zcat_rf]) ?_
  refine zr_iconst C0 (v := 0) dX6_recordedInAll_2 (by decide) ?_
  refine zr_istore (i := 4) (lv' := [(4, .int (0 : Int32)), (2, .long (0 : Int64)), (0, .ref p0), (1, .int p1)]) C0 dX6_recordedInAll_3 (by decide) (by first | rfl | simp [zst1, zst2, zcat_rf]) ?_
  refine zr_sub [2, 3, 1, 0] rfl ?_
  exact w_X6_recordedInAll_l5 C0 _ _ _ _ _ _ hf
def f_X6_recordedInAll (E : zE) (p0 : Nat) (p1 : Int32) (h : zH) : Option (Int64 × zH) := f_X6_recordedInAll_b0 E p0 p1 h
theorem m_X6_recordedInAll {l : Launch} (hst : l.stackTraces = false) {D : zD} {B0 : Nat} {E : zE} {p0 : Nat} {p1 : Int32} {h h' : zH} {r : Int64} (hf : f_X6_recordedInAll E p0 p1 h = some (r, h')) : zMet l yX6_recordedInAll (ws_ yX6_recordedInAll cX6_recordedInAll 5 (Option.some Jvm.ClassFile.FieldType.long)) 2 82 D B0 E [.ref p0, .int p1] h (zoL r) h' := by
  unfold f_X6_recordedInAll at hf
  refine zMet_of hst (by decide +kernel) rfl rfl (Nat.le_of_ble_eq_true rfl) (fun p e R s m below meth c C0 hno => ?_)
  show zW _ _ _ _ _ _ _ _ _ _ _ _ _ _ _ _ [(0, .ref p0), (1, .int p1)] []
  exact w_X6_recordedInAll_b0 C0 hf
def f_X6_ranked_b77 (E : zE) (k7 : Nat → Int32 → Int32 → zH → Option (Int32 × zH)) (k24 : Nat → Int32 → Int32 → Int32 → Int32 → zH → Option (Int32 × zH)) (p0 : Nat) (p1 : Int32) (p2 : Int32) (p4 : Int32) (s0 : Int32) (s1 : Int32) (h : zH) : Option (Int32 × zH) :=
  k24 p0 p1 p2 (s0 + s1) (p4 + 1) h
theorem w_X6_ranked_b77 (C0 : zCx p l e R s m args below meth c D B0 7 "FranchiseLedgerModel" cX6_ranked E 3 106 (Option.some Jvm.ClassFile.FieldType.int) "ranked") {r : Int32} {h' : zH} {k7 : Nat → Int32 → Int32 → zH → Option (Int32 × zH)} (hk7 : ∀ (p0 : Nat) (p1 : Int32) (p2 : Int32) (h : zH), k7 p0 p1 p2 h = some (r, h') → zW p l e R s m args below meth c D B0 7 (zEnd D B0 R below args s (zoI r) h') h 7 [(0, .ref p0), (1, .int p1), (2, .int p2)] []) {k24 : Nat → Int32 → Int32 → Int32 → Int32 → zH → Option (Int32 × zH)} (hk24 : ∀ (p0 : Nat) (p1 : Int32) (p2 : Int32) (p3 : Int32) (p4 : Int32) (h : zH), k24 p0 p1 p2 p3 p4 h = some (r, h') → zW p l e R s m args below meth c D B0 7 (zEnd D B0 R below args s (zoI r) h') h 24 [(0, .ref p0), (1, .int p1), (2, .int p2), (3, .int p3), (4, .int p4)] []) {p0 : Nat} {p1 : Int32} {p2 : Int32} {p4 : Int32} {s0 : Int32} {s1 : Int32} {h : zH} (hf : f_X6_ranked_b77 E k7 k24 p0 p1 p2 p4 s0 s1 h = some (r, h')) : zW p l e R s m args below meth c D B0 7 (zEnd D B0 R below args s (zoI r) h') h 77 [(0, .ref p0), (1, .int p1), (2, .int p2), (4, .int p4)] [.int s1, .int s0] := by
  unfold f_X6_ranked_b77 at hf
  refine zr_iadd C0 dX6_ranked_77 ?_
  refine zr_istore_n (i := 3) (lv' := [(3, .int (s0 + s1)), (0, .ref p0), (1, .int p1), (2, .int p2), (4, .int p4)]) C0 dX6_ranked_78 rfl (by decide) (by first | rfl | simp [zst1, zst2, zcat_rf]) ?_
  refine zr_iinc (lv' := [(4, .int (p4 + 1)), (3, .int (s0 + s1)), (0, .ref p0), (1, .int p1), (2, .int p2)]) C0 dX6_ranked_79 4 rfl rfl (by decide) (by first | rfl | simp [zst1, zst2, zcat_rf]) ?_
  refine zr_goto C0 (tgt := 24) dX6_ranked_82 (by decide) ?_
  refine zr_sub [2, 3, 4, 1, 0] rfl ?_
  exact hk24 _ _ _ _ _ _ hf
def f_X6_ranked_b72 (E : zE) (k7 : Nat → Int32 → Int32 → zH → Option (Int32 × zH)) (k24 : Nat → Int32 → Int32 → Int32 → Int32 → zH → Option (Int32 × zH)) (p0 : Nat) (p1 : Int32) (p2 : Int32) (p4 : Int32) (s0 : Int32) (h : zH) : Option (Int32 × zH) :=
  f_X6_ranked_b77 E k7 k24 p0 p1 p2 p4 s0 (1 : Int32) h
theorem w_X6_ranked_b72 (C0 : zCx p l e R s m args below meth c D B0 7 "FranchiseLedgerModel" cX6_ranked E 3 106 (Option.some Jvm.ClassFile.FieldType.int) "ranked") {r : Int32} {h' : zH} {k7 : Nat → Int32 → Int32 → zH → Option (Int32 × zH)} (hk7 : ∀ (p0 : Nat) (p1 : Int32) (p2 : Int32) (h : zH), k7 p0 p1 p2 h = some (r, h') → zW p l e R s m args below meth c D B0 7 (zEnd D B0 R below args s (zoI r) h') h 7 [(0, .ref p0), (1, .int p1), (2, .int p2)] []) {k24 : Nat → Int32 → Int32 → Int32 → Int32 → zH → Option (Int32 × zH)} (hk24 : ∀ (p0 : Nat) (p1 : Int32) (p2 : Int32) (p3 : Int32) (p4 : Int32) (h : zH), k24 p0 p1 p2 p3 p4 h = some (r, h') → zW p l e R s m args below meth c D B0 7 (zEnd D B0 R below args s (zoI r) h') h 24 [(0, .ref p0), (1, .int p1), (2, .int p2), (3, .int p3), (4, .int p4)] []) {p0 : Nat} {p1 : Int32} {p2 : Int32} {p4 : Int32} {s0 : Int32} {h : zH} (hf : f_X6_ranked_b72 E k7 k24 p0 p1 p2 p4 s0 h = some (r, h')) : zW p l e R s m args below meth c D B0 7 (zEnd D B0 R below args s (zoI r) h') h 72 [(0, .ref p0), (1, .int p1), (2, .int p2), (4, .int p4)] [.int s0] := by
  unfold f_X6_ranked_b72 at hf
  refine zr_iconst C0 (v := 1) dX6_ranked_72 (by decide) ?_
  refine zr_goto C0 (tgt := 77) dX6_ranked_73 (by decide) ?_
  exact w_X6_ranked_b77 C0 hk7 hk24 hf
def f_X6_ranked_b76 (E : zE) (k7 : Nat → Int32 → Int32 → zH → Option (Int32 × zH)) (k24 : Nat → Int32 → Int32 → Int32 → Int32 → zH → Option (Int32 × zH)) (p0 : Nat) (p1 : Int32) (p2 : Int32) (p4 : Int32) (s0 : Int32) (h : zH) : Option (Int32 × zH) :=
  f_X6_ranked_b77 E k7 k24 p0 p1 p2 p4 s0 (0 : Int32) h
theorem w_X6_ranked_b76 (C0 : zCx p l e R s m args below meth c D B0 7 "FranchiseLedgerModel" cX6_ranked E 3 106 (Option.some Jvm.ClassFile.FieldType.int) "ranked") {r : Int32} {h' : zH} {k7 : Nat → Int32 → Int32 → zH → Option (Int32 × zH)} (hk7 : ∀ (p0 : Nat) (p1 : Int32) (p2 : Int32) (h : zH), k7 p0 p1 p2 h = some (r, h') → zW p l e R s m args below meth c D B0 7 (zEnd D B0 R below args s (zoI r) h') h 7 [(0, .ref p0), (1, .int p1), (2, .int p2)] []) {k24 : Nat → Int32 → Int32 → Int32 → Int32 → zH → Option (Int32 × zH)} (hk24 : ∀ (p0 : Nat) (p1 : Int32) (p2 : Int32) (p3 : Int32) (p4 : Int32) (h : zH), k24 p0 p1 p2 p3 p4 h = some (r, h') → zW p l e R s m args below meth c D B0 7 (zEnd D B0 R below args s (zoI r) h') h 24 [(0, .ref p0), (1, .int p1), (2, .int p2), (3, .int p3), (4, .int p4)] []) {p0 : Nat} {p1 : Int32} {p2 : Int32} {p4 : Int32} {s0 : Int32} {h : zH} (hf : f_X6_ranked_b76 E k7 k24 p0 p1 p2 p4 s0 h = some (r, h')) : zW p l e R s m args below meth c D B0 7 (zEnd D B0 R below args s (zoI r) h') h 76 [(0, .ref p0), (1, .int p1), (2, .int p2), (4, .int p4)] [.int s0] := by
  unfold f_X6_ranked_b76 at hf
  refine zr_iconst C0 (v := 0) dX6_ranked_76 (by decide) ?_
  exact w_X6_ranked_b77 C0 hk7 hk24 hf
def f_X6_ranked_l24 (E : zE) (k7 : Nat → Int32 → Int32 → zH → Option (Int32 × zH)) : Nat → Nat → Int32 → Int32 → Int32 → Int32 → zH → Option (Int32 × zH)
  | 0, _, _, _, _, _, _ => none
  | n + 1, p0, p1, p2, p3, p4, h =>
    (gR h p0 1 0).bind fun x1 =>
    (dL h x1 (2 : Int32)).bind fun x3 =>
    if x3 ≤ (p4.toInt64) then (
      if p3 = p1 then (
        some (p2, h)
      ) else (
        k7 p0 p1 (p2 + 1) h
      )
    ) else (
      (cko h p0 1).bind fun _ =>
      bnd2 (f_X6_recordedInAll E p0 p4 h) fun x10 h8 =>
      (cko h8 p0 1).bind fun _ =>
      bnd2 (f_X6_recordedInAll E p0 p2 h8) fun x14 h12 =>
      if (0 : Int64) < (x10 - x14) then (
        f_X6_ranked_b72 E k7 (f_X6_ranked_l24 E k7 n) p0 p1 p2 p4 p3 h12
      ) else (
        if (x10 - x14) = (0 : Int64) then (
          if p2 ≤ p4 then (
            f_X6_ranked_b76 E k7 (f_X6_ranked_l24 E k7 n) p0 p1 p2 p4 p3 h12
          ) else (
            f_X6_ranked_b72 E k7 (f_X6_ranked_l24 E k7 n) p0 p1 p2 p4 p3 h12
          )
        ) else (
          f_X6_ranked_b76 E k7 (f_X6_ranked_l24 E k7 n) p0 p1 p2 p4 p3 h12
        )
      )
    )
theorem w_X6_ranked_l24 (C0 : zCx p l e R s m args below meth c D B0 7 "FranchiseLedgerModel" cX6_ranked E 3 106 (Option.some Jvm.ClassFile.FieldType.int) "ranked") {r : Int32} {h' : zH} {k7 : Nat → Int32 → Int32 → zH → Option (Int32 × zH)} (hk7 : ∀ (p0 : Nat) (p1 : Int32) (p2 : Int32) (h : zH), k7 p0 p1 p2 h = some (r, h') → zW p l e R s m args below meth c D B0 7 (zEnd D B0 R below args s (zoI r) h') h 7 [(0, .ref p0), (1, .int p1), (2, .int p2)] []) : ∀ (n : Nat) (p0 : Nat) (p1 : Int32) (p2 : Int32) (p3 : Int32) (p4 : Int32) (h : zH), f_X6_ranked_l24 E k7 n p0 p1 p2 p3 p4 h = some (r, h') → zW p l e R s m args below meth c D B0 7 (zEnd D B0 R below args s (zoI r) h') h 24 [(0, .ref p0), (1, .int p1), (2, .int p2), (3, .int p3), (4, .int p4)] [] := by
  intro n
  induction n with
  | zero =>
    intro p0 p1 p2 p3 p4 h hf
    unfold f_X6_ranked_l24 at hf
    cases hf
  | succ n ih =>
    intro p0 p1 p2 p3 p4 h hf
    unfold f_X6_ranked_l24 at hf
    refine zr_iload C0 dX6_ranked_24 4 rfl ?_
    refine zr_i2l C0 dX6_ranked_26 ?_
    refine zr_aload_n C0 dX6_ranked_27 rfl 0 rfl ?_
    obtain ⟨x1, e2, hf⟩ := zbind hf
    refine zr_get C0 fl_X6_9_X6 dX6_ranked_28 (zgR e2) ?_
    refine zr_iconst C0 (v := 2) dX6_ranked_31 (by decide) ?_
    obtain ⟨x3, e4, hf⟩ := zbind hf
    refine zr_lald C0 dX6_ranked_32 e4 ?_
    refine zr_lcmp C0 dX6_ranked_33 ?_
    refine zr_if_ge C0 (tgt := 85) dX6_ranked_34 (by decide) (fun c5 => ?_) (fun c5 => ?_)
    · have hf := zif_t (zl_ge.mp c5) hf
      refine zr_iload_n C0 dX6_ranked_85 rfl 3 rfl ?_
      refine zr_iload_n C0 dX6_ranked_86 rfl 1 rfl ?_
      refine zr_icmp_ne C0 (tgt := 92) dX6_ranked_87 (by decide) (fun c6 => ?_) (fun c6 => ?_)
      · have hf := zif_f c6 hf
        refine zr_iinc (lv' := [(2, .int (p2 + 1)), (0, .ref p0), (1, .int p1), (3, .int p3), (4, .int p4)]) C0 dX6_ranked_92 2 rfl rfl (by decide) (by first | rfl | simp [zst1, zst2, zcat_rf]) ?_
        refine zr_goto C0 (tgt := 7) dX6_ranked_95 (by decide) ?_
        refine zr_sub [1, 2, 0] rfl ?_
        exact hk7 _ _ _ _ hf
      · have hf := zif_t c6 hf
        refine zr_iload_n C0 dX6_ranked_90 rfl 2 rfl ?_
        refine zretW hf ?_
        exact zr_iret C0 (ty := .int) rfl rfl dX6_ranked_91 rfl
    · have hf := zif_f (zl_gen.mp c5) hf
      refine zr_aload_n C0 dX6_ranked_37 rfl 0 rfl ?_
      refine zr_iload C0 dX6_ranked_38 4 rfl ?_
      obtain ⟨_, e7, hf⟩ := zbind hf
      obtain ⟨x10, h8, e9, hf⟩ := zbind2 hf
      refine zr_callV_r C0 cv_X6_213_X6 rfl (zcko e7) (m_X6_recordedInAll C0.2.2.2.2.2.2.1 e9) (by decide) (by decide) rfl rfl (Nat.le_of_ble_eq_true rfl) dX6_ranked_40 rfl ?_
      refine zr_aload_n C0 dX6_ranked_43 rfl 0 rfl ?_
      refine zr_iload_n C0 dX6_ranked_44 rfl 2 rfl ?_
      obtain ⟨_, e11, hf⟩ := zbind hf
      obtain ⟨x14, h12, e13, hf⟩ := zbind2 hf
      refine zr_callV_r C0 cv_X6_213_X6 rfl (zcko e11) (m_X6_recordedInAll C0.2.2.2.2.2.2.1 e13) (by decide) (by decide) rfl rfl (Nat.le_of_ble_eq_true rfl) dX6_ranked_45 rfl ?_
      refine zr_lsub C0 dX6_ranked_48 ?_
      refine zr_lstore (i := 5) (lv' := [(5, .long (x10 - x14)), (0, .ref p0), (1, .int p1), (2, .int p2), (3, .int p3), (4, .int p4)]) C0 dX6_ranked_49 (by decide) (by first | rfl | simp [zst1, zst2, zcat_rf]) ?_
      refine zr_iload_n C0 dX6_ranked_51 rfl 4 rfl ?_
      refine zr_lload C0 dX6_ranked_52 0 rfl ?_
      refine zr_lconst C0 (v := 0) dX6_ranked_54 (by decide) ?_
      refine zr_lcmp C0 dX6_ranked_55 ?_
      refine zr_if_gt C0 (tgt := 72) dX6_ranked_56 (by decide) (fun c15 => ?_) (fun c15 => ?_)
      · have hf := zif_t (zl_gt.mp c15) hf
        refine zr_sub [1, 2, 3, 5] rfl ?_
        exact w_X6_ranked_b72 C0 hk7 ih hf
      · have hf := zif_f (zl_gtn.mp c15) hf
        refine zr_lload C0 dX6_ranked_59 0 rfl ?_
        refine zr_lconst C0 (v := 0) dX6_ranked_61 (by decide) ?_
        refine zr_lcmp C0 dX6_ranked_62 ?_
        refine zr_if_ne C0 (tgt := 76) dX6_ranked_63 (by decide) (fun c16 => ?_) (fun c16 => ?_)
        · have hf := zif_f (zl_ne.mp c16) hf
          refine zr_sub [1, 2, 3, 5] rfl ?_
          exact w_X6_ranked_b76 C0 hk7 ih hf
        · have hf := zif_t (zl_nen.mp c16) hf
          refine zr_iload C0 dX6_ranked_66 5 rfl ?_
          refine zr_iload_n C0 dX6_ranked_68 rfl 3 rfl ?_
          refine zr_icmp_ge C0 (tgt := 76) dX6_ranked_69 (by decide) (fun c17 => ?_) (fun c17 => ?_)
          · have hf := zif_t c17 hf
            refine zr_sub [1, 2, 3, 5] rfl ?_
            exact w_X6_ranked_b76 C0 hk7 ih hf
          · have hf := zif_f c17 hf
            refine zr_sub [1, 2, 3, 5] rfl ?_
            exact w_X6_ranked_b72 C0 hk7 ih hf
def f_X6_ranked_l7 (E : zE) : Nat → Nat → Int32 → Int32 → zH → Option (Int32 × zH)
  | 0, _, _, _, _ => none
  | n + 1, p0, p1, p2, h =>
    (gR h p0 1 0).bind fun x1 =>
    (dL h x1 (2 : Int32)).bind fun x3 =>
    if x3 ≤ (p2.toInt64) then (
      some ((-1 : Int32), h)
    ) else (
      f_X6_ranked_l24 E (f_X6_ranked_l7 E n) E.1 p0 p1 p2 (0 : Int32) (0 : Int32) h
    )
theorem w_X6_ranked_l7 (C0 : zCx p l e R s m args below meth c D B0 7 "FranchiseLedgerModel" cX6_ranked E 3 106 (Option.some Jvm.ClassFile.FieldType.int) "ranked") {r : Int32} {h' : zH} : ∀ (n : Nat) (p0 : Nat) (p1 : Int32) (p2 : Int32) (h : zH), f_X6_ranked_l7 E n p0 p1 p2 h = some (r, h') → zW p l e R s m args below meth c D B0 7 (zEnd D B0 R below args s (zoI r) h') h 7 [(0, .ref p0), (1, .int p1), (2, .int p2)] [] := by
  intro n
  induction n with
  | zero =>
    intro p0 p1 p2 h hf
    unfold f_X6_ranked_l7 at hf
    cases hf
  | succ n ih =>
    intro p0 p1 p2 h hf
    unfold f_X6_ranked_l7 at hf
    refine zr_iload_n C0 dX6_ranked_7 rfl 2 rfl ?_
    refine zr_i2l C0 dX6_ranked_8 ?_
    refine zr_aload_n C0 dX6_ranked_9 rfl 0 rfl ?_
    obtain ⟨x1, e2, hf⟩ := zbind hf
    refine zr_get C0 fl_X6_9_X6 dX6_ranked_10 (zgR e2) ?_
    refine zr_iconst C0 (v := 2) dX6_ranked_13 (by decide) ?_
    obtain ⟨x3, e4, hf⟩ := zbind hf
    refine zr_lald C0 dX6_ranked_14 e4 ?_
    refine zr_lcmp C0 dX6_ranked_15 ?_
    refine zr_if_ge C0 (tgt := 98) dX6_ranked_16 (by decide) (fun c5 => ?_) (fun c5 => ?_)
    · have hf := zif_t (zl_ge.mp c5) hf
      refine zr_iconst C0 (v := -1) dX6_ranked_98 (by decide) ?_
      refine zretW hf ?_
      exact zr_iret C0 (ty := .int) rfl rfl dX6_ranked_99 rfl
    · have hf := zif_f (zl_gen.mp c5) hf
      refine zr_iconst C0 (v := 0) dX6_ranked_19 (by decide) ?_
      refine zr_istore_n (i := 3) (lv' := [(3, .int (0 : Int32)), (0, .ref p0), (1, .int p1), (2, .int p2)]) C0 dX6_ranked_20 rfl (by decide) (by first | rfl | simp [zst1, zst2, zcat_rf]) ?_
      refine zr_iconst C0 (v := 0) dX6_ranked_21 (by decide) ?_
      refine zr_istore (i := 4) (lv' := [(4, .int (0 : Int32)), (3, .int (0 : Int32)), (0, .ref p0), (1, .int p1), (2, .int p2)]) C0 dX6_ranked_22 (by decide) (by first | rfl | simp [zst1, zst2, zcat_rf]) ?_
      refine zr_sub [2, 3, 4, 1, 0] rfl ?_
      exact w_X6_ranked_l24 C0 ih _ _ _ _ _ _ _ hf
def f_X6_ranked_b0 (E : zE) (p0 : Nat) (p1 : Int32) (h : zH) : Option (Int32 × zH) :=
  (pF h p0 1 2 (.int (0 : Int32))).bind fun h1 =>
  f_X6_ranked_l7 E E.1 p0 p1 (0 : Int32) h1
theorem w_X6_ranked_b0 (C0 : zCx p l e R s m args below meth c D B0 7 "FranchiseLedgerModel" cX6_ranked E 3 106 (Option.some Jvm.ClassFile.FieldType.int) "ranked") {r : Int32} {h' : zH} {p0 : Nat} {p1 : Int32} {h : zH} (hf : f_X6_ranked_b0 E p0 p1 h = some (r, h')) : zW p l e R s m args below meth c D B0 7 (zEnd D B0 R below args s (zoI r) h') h 0 [(0, .ref p0), (1, .int p1)] [] := by
  unfold f_X6_ranked_b0 at hf
  refine zr_aload_n C0 dX6_ranked_0 rfl 0 rfl ?_
  refine zr_iconst C0 (v := 0) dX6_ranked_1 (by decide) ?_
  obtain ⟨h1, e2, hf⟩ := zbind hf
  refine zr_put C0 pl_X6_50_X6 dX6_ranked_2 (fun h => by cases h) rfl rfl e2 ?_
  refine zr_iconst C0 (v := 0) dX6_ranked_5 (by decide) ?_
  refine zr_istore_n (i := 2) (lv' := [(2, .int (0 : Int32)), (0, .ref p0), (1, .int p1)]) C0 dX6_ranked_6 rfl (by decide) (by first | rfl | simp [zst1, zst2, zcat_rf]) ?_
  refine zr_sub [1, 2, 0] rfl ?_
  exact w_X6_ranked_l7 C0 _ _ _ _ _ hf
def f_X6_ranked (E : zE) (p0 : Nat) (p1 : Int32) (h : zH) : Option (Int32 × zH) := f_X6_ranked_b0 E p0 p1 h
theorem m_X6_ranked {l : Launch} (hst : l.stackTraces = false) {D : zD} {B0 : Nat} {E : zE} {p0 : Nat} {p1 : Int32} {h h' : zH} {r : Int32} (hf : f_X6_ranked E p0 p1 h = some (r, h')) : zMet l yX6_ranked (ws_ yX6_ranked cX6_ranked 7 (Option.some Jvm.ClassFile.FieldType.int)) 3 106 D B0 E [.ref p0, .int p1] h (zoI r) h' := by
  unfold f_X6_ranked at hf
  refine zMet_of hst (by decide +kernel) rfl rfl (Nat.le_of_ble_eq_true rfl) (fun p e R s m below meth c C0 hno => ?_)
  show zW _ _ _ _ _ _ _ _ _ _ _ _ _ _ _ _ [(0, .ref p0), (1, .int p1)] []
  exact w_X6_ranked_b0 C0 hf
def f_X6_credit_b46 (E : zE) (s0 : Int64) (h : zH) : Option (Int64 × zH) :=
  some (s0, h)
theorem w_X6_credit_b46 (C0 : zCx p l e R s m args below meth c D B0 5 "FranchiseLedgerModel" cX6_credit E 3 104 (Option.some Jvm.ClassFile.FieldType.long) "credit") {r : Int64} {h' : zH} {s0 : Int64} {h : zH} (hf : f_X6_credit_b46 E s0 h = some (r, h')) : zW p l e R s m args below meth c D B0 5 (zEnd D B0 R below args s (zoL r) h') h 46 [] [.long s0] := by
  unfold f_X6_credit_b46 at hf
  refine zretW hf ?_
  exact zr_lret C0 rfl dX6_credit_46 rfl
def f_X6_credit_b0 (E : zE) (p0 : Nat) (p1 : Int32) (p2 : Int32) (h : zH) : Option (Int64 × zH) :=
  (gR h p0 1 0).bind fun x1 =>
  (dL h x1 (((1150 : Int32) + ((8 : Int32) * p1)) + p2)).bind fun x3 =>
  (gR h p0 1 0).bind fun x5 =>
  (dL h x5 (4 : Int32)).bind fun x7 =>
  bnd2 (f_X6_rated E x3 x7 h) fun x11 h9 =>
  (gR h9 p0 1 0).bind fun x12 =>
  (dL h9 x12 (5 : Int32)).bind fun x14 =>
  if x14 ≤ x11 then (
    (gR h9 p0 1 0).bind fun x17 =>
    (dL h9 x17 (5 : Int32)).bind fun x19 =>
    f_X6_credit_b46 E x19 h9
  ) else (
    f_X6_credit_b46 E x11 h9
  )
theorem w_X6_credit_b0 (C0 : zCx p l e R s m args below meth c D B0 5 "FranchiseLedgerModel" cX6_credit E 3 104 (Option.some Jvm.ClassFile.FieldType.long) "credit") {r : Int64} {h' : zH} {p0 : Nat} {p1 : Int32} {p2 : Int32} {h : zH} (hf : f_X6_credit_b0 E p0 p1 p2 h = some (r, h')) : zW p l e R s m args below meth c D B0 5 (zEnd D B0 R below args s (zoL r) h') h 0 [(0, .ref p0), (1, .int p1), (2, .int p2)] [] := by
  unfold f_X6_credit_b0 at hf
  refine zr_aload_n C0 dX6_credit_0 rfl 0 rfl ?_
  obtain ⟨x1, e2, hf⟩ := zbind hf
  refine zr_get C0 fl_X6_9_X6 dX6_credit_1 (zgR e2) ?_
  refine zr_sipush C0 (v := 1150) dX6_credit_4 (by decide) ?_
  refine zr_bipush C0 (v := 8) dX6_credit_7 (by decide) ?_
  refine zr_iload_n C0 dX6_credit_9 rfl 1 rfl ?_
  refine zr_imul C0 dX6_credit_10 ?_
  refine zr_iadd C0 dX6_credit_11 ?_
  refine zr_iload_n C0 dX6_credit_12 rfl 2 rfl ?_
  refine zr_iadd C0 dX6_credit_13 ?_
  obtain ⟨x3, e4, hf⟩ := zbind hf
  refine zr_lald C0 dX6_credit_14 e4 ?_
  refine zr_aload_n C0 dX6_credit_15 rfl 0 rfl ?_
  obtain ⟨x5, e6, hf⟩ := zbind hf
  refine zr_get C0 fl_X6_9_X6 dX6_credit_16 (zgR e6) ?_
  refine zr_iconst C0 (v := 4) dX6_credit_19 (by decide) ?_
  obtain ⟨x7, e8, hf⟩ := zbind hf
  refine zr_lald C0 dX6_credit_20 e8 ?_
  obtain ⟨x11, h9, e10, hf⟩ := zbind2 hf
  refine zr_callS_r C0 cv_X6_187 (m_X6_rated C0.2.2.2.2.2.2.1 e10) (by decide) (by decide) rfl rfl (Nat.le_of_ble_eq_true rfl) dX6_credit_21 rfl ?_
  refine zr_lstore_n (i := 3) (lv' := [(3, .long x11), (0, .ref p0), (1, .int p1), (2, .int p2)]) C0 dX6_credit_24 rfl (by decide) (by first | rfl | simp [zst1, zst2, zcat_rf]) ?_
  refine zr_lload_n C0 dX6_credit_25 rfl 0 rfl ?_
  refine zr_aload_n C0 dX6_credit_26 rfl 1 rfl ?_
  obtain ⟨x12, e13, hf⟩ := zbind hf
  refine zr_get C0 fl_X6_9_X6 dX6_credit_27 (zgR e13) ?_
  refine zr_iconst C0 (v := 5) dX6_credit_30 (by decide) ?_
  obtain ⟨x14, e15, hf⟩ := zbind hf
  refine zr_lald C0 dX6_credit_31 e15 ?_
  refine zr_lcmp C0 dX6_credit_32 ?_
  refine zr_if_ge C0 (tgt := 40) dX6_credit_33 (by decide) (fun c16 => ?_) (fun c16 => ?_)
  · have hf := zif_t (zl_ge.mp c16) hf
    refine zr_aload_n C0 dX6_credit_40 rfl 1 rfl ?_
    obtain ⟨x17, e18, hf⟩ := zbind hf
    refine zr_get C0 fl_X6_9_X6 dX6_credit_41 (zgR e18) ?_
    refine zr_iconst C0 (v := 5) dX6_credit_44 (by decide) ?_
    obtain ⟨x19, e20, hf⟩ := zbind hf
    refine zr_lald C0 dX6_credit_45 e20 ?_
    refine zr_sub [] rfl ?_
    exact w_X6_credit_b46 C0 hf
  · have hf := zif_f (zl_gen.mp c16) hf
    refine zr_lload_n C0 dX6_credit_36 rfl 0 rfl ?_
    refine zr_goto C0 (tgt := 46) dX6_credit_37 (by decide) ?_
    refine zr_sub [] rfl ?_
    exact w_X6_credit_b46 C0 hf
def f_X6_credit (E : zE) (p0 : Nat) (p1 : Int32) (p2 : Int32) (h : zH) : Option (Int64 × zH) := f_X6_credit_b0 E p0 p1 p2 h
theorem m_X6_credit {l : Launch} (hst : l.stackTraces = false) {D : zD} {B0 : Nat} {E : zE} {p0 : Nat} {p1 : Int32} {p2 : Int32} {h h' : zH} {r : Int64} (hf : f_X6_credit E p0 p1 p2 h = some (r, h')) : zMet l yX6_credit (ws_ yX6_credit cX6_credit 5 (Option.some Jvm.ClassFile.FieldType.long)) 3 104 D B0 E [.ref p0, .int p1, .int p2] h (zoL r) h' := by
  unfold f_X6_credit at hf
  refine zMet_of hst (by decide +kernel) rfl rfl (Nat.le_of_ble_eq_true rfl) (fun p e R s m below meth c C0 hno => ?_)
  show zW _ _ _ _ _ _ _ _ _ _ _ _ _ _ _ _ [(0, .ref p0), (1, .int p1), (2, .int p2)] []
  exact w_X6_credit_b0 C0 hf
def f_X6_creditDue_b49 (E : zE) (s0 : Int64) (h : zH) : Option (Int64 × zH) :=
  some (s0, h)
theorem w_X6_creditDue_b49 (C0 : zCx p l e R s m args below meth c D B0 3 "FranchiseLedgerModel" cX6_creditDue E 4 128 (Option.some Jvm.ClassFile.FieldType.long) "creditDue") {r : Int64} {h' : zH} {s0 : Int64} {h : zH} (hf : f_X6_creditDue_b49 E s0 h = some (r, h')) : zW p l e R s m args below meth c D B0 3 (zEnd D B0 R below args s (zoL r) h') h 49 [] [.long s0] := by
  unfold f_X6_creditDue_b49 at hf
  refine zretW hf ?_
  exact zr_lret C0 rfl dX6_creditDue_49 rfl
def f_X6_creditDue_b39 (E : zE) (h : zH) : Option (Int64 × zH) :=
  f_X6_creditDue_b49 E (0 : Int64) h
theorem w_X6_creditDue_b39 (C0 : zCx p l e R s m args below meth c D B0 3 "FranchiseLedgerModel" cX6_creditDue E 4 128 (Option.some Jvm.ClassFile.FieldType.long) "creditDue") {r : Int64} {h' : zH} {h : zH} (hf : f_X6_creditDue_b39 E  h = some (r, h')) : zW p l e R s m args below meth c D B0 3 (zEnd D B0 R below args s (zoL r) h') h 39 [] [] := by
  unfold f_X6_creditDue_b39 at hf
  refine zr_lconst C0 (v := 0) dX6_creditDue_39 (by decide) ?_
  refine zr_goto C0 (tgt := 49) dX6_creditDue_40 (by decide) ?_
  exact w_X6_creditDue_b49 C0 hf
def f_X6_creditDue_b27 (E : zE) (p0 : Nat) (p1 : Int32) (p2 : Int32) (s0 : Nat) (s1 : Int32) (h : zH) : Option (Int64 × zH) :=
  (cko h s0 1).bind fun _ =>
  bnd2 (f_X6_throwsIf E s0 s1 (1 : Int32) h) fun x4 h2 =>
  if x4 = 0 then (
    if p1 = p2 then (
      f_X6_creditDue_b39 E  h2
    ) else (
      (cko h2 p0 1).bind fun _ =>
      bnd2 (f_X6_credit E p0 p1 p2 h2) fun x10 h8 =>
      f_X6_creditDue_b49 E x10 h8
    )
  ) else (
    f_X6_creditDue_b39 E  h2
  )
theorem w_X6_creditDue_b27 (C0 : zCx p l e R s m args below meth c D B0 3 "FranchiseLedgerModel" cX6_creditDue E 4 128 (Option.some Jvm.ClassFile.FieldType.long) "creditDue") {r : Int64} {h' : zH} {p0 : Nat} {p1 : Int32} {p2 : Int32} {s0 : Nat} {s1 : Int32} {h : zH} (hf : f_X6_creditDue_b27 E p0 p1 p2 s0 s1 h = some (r, h')) : zW p l e R s m args below meth c D B0 3 (zEnd D B0 R below args s (zoL r) h') h 27 [(0, .ref p0), (1, .int p1), (2, .int p2)] [.int s1, .ref s0] := by
  unfold f_X6_creditDue_b27 at hf
  refine zr_iconst C0 (v := 1) dX6_creditDue_27 (by decide) ?_
  obtain ⟨_, e1, hf⟩ := zbind hf
  obtain ⟨x4, h2, e3, hf⟩ := zbind2 hf
  refine zr_callV_r C0 cv_X6_81_X6 rfl (zcko e1) (m_X6_throwsIf C0.2.2.2.2.2.2.1 e3) (by decide) (by decide) rfl rfl (Nat.le_of_ble_eq_true rfl) dX6_creditDue_28 rfl ?_
  refine zr_if_ne C0 (tgt := 39) dX6_creditDue_31 (by decide) (fun c5 => ?_) (fun c5 => ?_)
  · have hf := zif_f c5 hf
    refine zr_sub [] rfl ?_
    exact w_X6_creditDue_b39 C0 hf
  · have hf := zif_t c5 hf
    refine zr_iload_n C0 dX6_creditDue_34 rfl 1 rfl ?_
    refine zr_iload_n C0 dX6_creditDue_35 rfl 2 rfl ?_
    refine zr_icmp_ne C0 (tgt := 43) dX6_creditDue_36 (by decide) (fun c6 => ?_) (fun c6 => ?_)
    · have hf := zif_f c6 hf
      refine zr_aload_n C0 dX6_creditDue_43 rfl 0 rfl ?_
      refine zr_iload_n C0 dX6_creditDue_44 rfl 1 rfl ?_
      refine zr_iload_n C0 dX6_creditDue_45 rfl 2 rfl ?_
      obtain ⟨_, e7, hf⟩ := zbind hf
      obtain ⟨x10, h8, e9, hf⟩ := zbind2 hf
      refine zr_callV_r C0 cv_X6_217_X6 rfl (zcko e7) (m_X6_credit C0.2.2.2.2.2.2.1 e9) (by decide) (by decide) rfl rfl (Nat.le_of_ble_eq_true rfl) dX6_creditDue_46 rfl ?_
      refine zr_sub [] rfl ?_
      exact w_X6_creditDue_b49 C0 hf
    · have hf := zif_t c6 hf
      refine zr_sub [] rfl ?_
      exact w_X6_creditDue_b39 C0 hf
def f_X6_creditDue_b22 (E : zE) (p0 : Nat) (p1 : Int32) (p2 : Int32) (s0 : Nat) (h : zH) : Option (Int64 × zH) :=
  f_X6_creditDue_b27 E p0 p1 p2 s0 (1 : Int32) h
theorem w_X6_creditDue_b22 (C0 : zCx p l e R s m args below meth c D B0 3 "FranchiseLedgerModel" cX6_creditDue E 4 128 (Option.some Jvm.ClassFile.FieldType.long) "creditDue") {r : Int64} {h' : zH} {p0 : Nat} {p1 : Int32} {p2 : Int32} {s0 : Nat} {h : zH} (hf : f_X6_creditDue_b22 E p0 p1 p2 s0 h = some (r, h')) : zW p l e R s m args below meth c D B0 3 (zEnd D B0 R below args s (zoL r) h') h 22 [(0, .ref p0), (1, .int p1), (2, .int p2)] [.ref s0] := by
  unfold f_X6_creditDue_b22 at hf
  refine zr_iconst C0 (v := 1) dX6_creditDue_22 (by decide) ?_
  refine zr_goto C0 (tgt := 27) dX6_creditDue_23 (by decide) ?_
  exact w_X6_creditDue_b27 C0 hf
def f_X6_creditDue_b0 (E : zE) (p0 : Nat) (p1 : Int32) (p2 : Int32) (h : zH) : Option (Int64 × zH) :=
  (pF h p0 1 2 (.int (0 : Int32))).bind fun h1 =>
  (cko h1 p0 1).bind fun _ =>
  bnd2 (f_X6_isFranchisee E p0 p1 h1) fun x6 h4 =>
  if x6 = 0 then (
    f_X6_creditDue_b22 E p0 p1 p2 p0 h4
  ) else (
    (cko h4 p0 1).bind fun _ =>
    bnd2 (f_X6_isFranchisee E p0 p2 h4) fun x11 h9 =>
    if x11 = 0 then (
      f_X6_creditDue_b22 E p0 p1 p2 p0 h9
    ) else (
      f_X6_creditDue_b27 E p0 p1 p2 p0 (0 : Int32) h9
    )
  )
theorem w_X6_creditDue_b0 (C0 : zCx p l e R s m args below meth c D B0 3 "FranchiseLedgerModel" cX6_creditDue E 4 128 (Option.some Jvm.ClassFile.FieldType.long) "creditDue") {r : Int64} {h' : zH} {p0 : Nat} {p1 : Int32} {p2 : Int32} {h : zH} (hf : f_X6_creditDue_b0 E p0 p1 p2 h = some (r, h')) : zW p l e R s m args below meth c D B0 3 (zEnd D B0 R below args s (zoL r) h') h 0 [(0, .ref p0), (1, .int p1), (2, .int p2)] [] := by
  unfold f_X6_creditDue_b0 at hf
  refine zr_aload_n C0 dX6_creditDue_0 rfl 0 rfl ?_
  refine zr_iconst C0 (v := 0) dX6_creditDue_1 (by decide) ?_
  obtain ⟨h1, e2, hf⟩ := zbind hf
  refine zr_put C0 pl_X6_50_X6 dX6_creditDue_2 (fun h => by cases h) rfl rfl e2 ?_
  refine zr_aload_n C0 dX6_creditDue_5 rfl 0 rfl ?_
  refine zr_aload_n C0 dX6_creditDue_6 rfl 0 rfl ?_
  refine zr_iload_n C0 dX6_creditDue_7 rfl 1 rfl ?_
  obtain ⟨_, e3, hf⟩ := zbind hf
  obtain ⟨x6, h4, e5, hf⟩ := zbind2 hf
  refine zr_callV_r C0 cv_X6_85_X6 rfl (zcko e3) (m_X6_isFranchisee C0.2.2.2.2.2.2.1 e5) (by decide) (by decide) rfl rfl (Nat.le_of_ble_eq_true rfl) dX6_creditDue_8 rfl ?_
  refine zr_if_eq C0 (tgt := 22) dX6_creditDue_11 (by decide) (fun c7 => ?_) (fun c7 => ?_)
  · have hf := zif_t c7 hf
    exact w_X6_creditDue_b22 C0 hf
  · have hf := zif_f c7 hf
    refine zr_aload_n C0 dX6_creditDue_14 rfl 0 rfl ?_
    refine zr_iload_n C0 dX6_creditDue_15 rfl 2 rfl ?_
    obtain ⟨_, e8, hf⟩ := zbind hf
    obtain ⟨x11, h9, e10, hf⟩ := zbind2 hf
    refine zr_callV_r C0 cv_X6_85_X6 rfl (zcko e8) (m_X6_isFranchisee C0.2.2.2.2.2.2.1 e10) (by decide) (by decide) rfl rfl (Nat.le_of_ble_eq_true rfl) dX6_creditDue_16 rfl ?_
    refine zr_if_ne C0 (tgt := 26) dX6_creditDue_19 (by decide) (fun c12 => ?_) (fun c12 => ?_)
    · have hf := zif_f c12 hf
      refine zr_iconst C0 (v := 0) dX6_creditDue_26 (by decide) ?_
      exact w_X6_creditDue_b27 C0 hf
    · have hf := zif_t c12 hf
      exact w_X6_creditDue_b22 C0 hf
def f_X6_creditDue (E : zE) (p0 : Nat) (p1 : Int32) (p2 : Int32) (h : zH) : Option (Int64 × zH) := f_X6_creditDue_b0 E p0 p1 p2 h
theorem m_X6_creditDue {l : Launch} (hst : l.stackTraces = false) {D : zD} {B0 : Nat} {E : zE} {p0 : Nat} {p1 : Int32} {p2 : Int32} {h h' : zH} {r : Int64} (hf : f_X6_creditDue E p0 p1 p2 h = some (r, h')) : zMet l yX6_creditDue (ws_ yX6_creditDue cX6_creditDue 3 (Option.some Jvm.ClassFile.FieldType.long)) 4 128 D B0 E [.ref p0, .int p1, .int p2] h (zoL r) h' := by
  unfold f_X6_creditDue at hf
  refine zMet_of hst (by decide +kernel) rfl rfl (Nat.le_of_ble_eq_true rfl) (fun p e R s m below meth c C0 hno => ?_)
  show zW _ _ _ _ _ _ _ _ _ _ _ _ _ _ _ _ [(0, .ref p0), (1, .int p1), (2, .int p2)] []
  exact w_X6_creditDue_b0 C0 hf
def f_X6_calculate_l105 (E : zE) : Nat → Nat → Int32 → Int32 → zH → Option (Unit × zH)
  | 0, _, _, _, _ => none
  | n + 1, p0, p1, p4, h =>
    (gR h p0 1 0).bind fun x1 =>
    (dL h x1 (2 : Int32)).bind fun x3 =>
    if x3 ≤ (p4.toInt64) then (
      (gR h p0 1 5).bind fun x6 =>
      (gR h p0 1 5).bind fun x8 =>
      (dL h x8 (0 : Int32)).bind fun x10 =>
      (gR h p0 1 5).bind fun x12 =>
      (dL h x12 (1 : Int32)).bind fun x14 =>
      (gR h p0 1 5).bind fun x16 =>
      (dL h x16 (2 : Int32)).bind fun x18 =>
      (gR h p0 1 5).bind fun x20 =>
      (dL h x20 (3 : Int32)).bind fun x22 =>
      (gR h p0 1 5).bind fun x24 =>
      (dL h x24 (4 : Int32)).bind fun x26 =>
      (sL h x6 (5 : Int32) ((((x10 + x14) + x18) + x22) - x26)).bind fun h28 =>
      some ((), h28)
    ) else (
      (gR h p0 1 5).bind fun x30 =>
      (dL h x30 (3 : Int32)).bind fun x32 =>
      (cko h p0 1).bind fun _ =>
      bnd2 (f_X6_credit E p0 p1 p4 h) fun x37 h35 =>
      (sL h35 x30 (3 : Int32) (x32 + x37)).bind fun h38 =>
      (gR h38 p0 1 5).bind fun x40 =>
      (dL h38 x40 (4 : Int32)).bind fun x42 =>
      (cko h38 p0 1).bind fun _ =>
      bnd2 (f_X6_credit E p0 p4 p1 h38) fun x47 h45 =>
      (sL h45 x40 (4 : Int32) (x42 + x47)).bind fun h48 =>
      f_X6_calculate_l105 E n p0 p1 (p4 + 1) h48
    )
theorem w_X6_calculate_l105 (C0 : zCx p l e R s m args below meth c D B0 5 "FranchiseLedgerModel" cX6_calculate E 4 128 (Option.none : Option Jvm.ClassFile.FieldType) "calculate") {r : Unit} {h' : zH} : ∀ (n : Nat) (p0 : Nat) (p1 : Int32) (p4 : Int32) (h : zH), f_X6_calculate_l105 E n p0 p1 p4 h = some (r, h') → zW p l e R s m args below meth c D B0 5 (zEnd D B0 R below args s (zoV r) h') h 105 [(0, .ref p0), (1, .int p1), (4, .int p4)] [] := by
  intro n
  induction n with
  | zero =>
    intro p0 p1 p4 h hf
    unfold f_X6_calculate_l105 at hf
    cases hf
  | succ n ih =>
    intro p0 p1 p4 h hf
    unfold f_X6_calculate_l105 at hf
    refine zr_iload C0 dX6_calculate_105 2 rfl ?_
    refine zr_i2l C0 dX6_calculate_107 ?_
    refine zr_aload_n C0 dX6_calculate_108 rfl 0 rfl ?_
    obtain ⟨x1, e2, hf⟩ := zbind hf
    refine zr_get C0 fl_X6_9_X6 dX6_calculate_109 (zgR e2) ?_
    refine zr_iconst C0 (v := 2) dX6_calculate_112 (by decide) ?_
    obtain ⟨x3, e4, hf⟩ := zbind hf
    refine zr_lald C0 dX6_calculate_113 e4 ?_
    refine zr_lcmp C0 dX6_calculate_114 ?_
    refine zr_if_ge C0 (tgt := 156) dX6_calculate_115 (by decide) (fun c5 => ?_) (fun c5 => ?_)
    · have hf := zif_t (zl_ge.mp c5) hf
      refine zr_aload_n C0 dX6_calculate_156 rfl 0 rfl ?_
      obtain ⟨x6, e7, hf⟩ := zbind hf
      refine zr_get C0 fl_X6_23_X6 dX6_calculate_157 (zgR e7) ?_
      refine zr_iconst C0 (v := 5) dX6_calculate_160 (by decide) ?_
      refine zr_aload_n C0 dX6_calculate_161 rfl 0 rfl ?_
      obtain ⟨x8, e9, hf⟩ := zbind hf
      refine zr_get C0 fl_X6_23_X6 dX6_calculate_162 (zgR e9) ?_
      refine zr_iconst C0 (v := 0) dX6_calculate_165 (by decide) ?_
      obtain ⟨x10, e11, hf⟩ := zbind hf
      refine zr_lald C0 dX6_calculate_166 e11 ?_
      refine zr_aload_n C0 dX6_calculate_167 rfl 0 rfl ?_
      obtain ⟨x12, e13, hf⟩ := zbind hf
      refine zr_get C0 fl_X6_23_X6 dX6_calculate_168 (zgR e13) ?_
      refine zr_iconst C0 (v := 1) dX6_calculate_171 (by decide) ?_
      obtain ⟨x14, e15, hf⟩ := zbind hf
      refine zr_lald C0 dX6_calculate_172 e15 ?_
      refine zr_ladd C0 dX6_calculate_173 ?_
      refine zr_aload_n C0 dX6_calculate_174 rfl 0 rfl ?_
      obtain ⟨x16, e17, hf⟩ := zbind hf
      refine zr_get C0 fl_X6_23_X6 dX6_calculate_175 (zgR e17) ?_
      refine zr_iconst C0 (v := 2) dX6_calculate_178 (by decide) ?_
      obtain ⟨x18, e19, hf⟩ := zbind hf
      refine zr_lald C0 dX6_calculate_179 e19 ?_
      refine zr_ladd C0 dX6_calculate_180 ?_
      refine zr_aload_n C0 dX6_calculate_181 rfl 0 rfl ?_
      obtain ⟨x20, e21, hf⟩ := zbind hf
      refine zr_get C0 fl_X6_23_X6 dX6_calculate_182 (zgR e21) ?_
      refine zr_iconst C0 (v := 3) dX6_calculate_185 (by decide) ?_
      obtain ⟨x22, e23, hf⟩ := zbind hf
      refine zr_lald C0 dX6_calculate_186 e23 ?_
      refine zr_ladd C0 dX6_calculate_187 ?_
      refine zr_aload_n C0 dX6_calculate_188 rfl 0 rfl ?_
      obtain ⟨x24, e25, hf⟩ := zbind hf
      refine zr_get C0 fl_X6_23_X6 dX6_calculate_189 (zgR e25) ?_
      refine zr_iconst C0 (v := 4) dX6_calculate_192 (by decide) ?_
      obtain ⟨x26, e27, hf⟩ := zbind hf
      refine zr_lald C0 dX6_calculate_193 e27 ?_
      refine zr_lsub C0 dX6_calculate_194 ?_
      obtain ⟨h28, e29, hf⟩ := zbind hf
      refine zr_last C0 dX6_calculate_195 e29 ?_
      refine zretW hf ?_
      exact zr_vret C0 rfl dX6_calculate_196 rfl
    · have hf := zif_f (zl_gen.mp c5) hf
      refine zr_aload_n C0 dX6_calculate_118 rfl 0 rfl ?_
      obtain ⟨x30, e31, hf⟩ := zbind hf
      refine zr_get C0 fl_X6_23_X6 dX6_calculate_119 (zgR e31) ?_
      refine zr_iconst C0 (v := 3) dX6_calculate_122 (by decide) ?_
      refine zr_dup2_11 C0 dX6_calculate_123 rfl rfl ?_
      obtain ⟨x32, e33, hf⟩ := zbind hf
      refine zr_lald C0 dX6_calculate_124 e33 ?_
      refine zr_aload_n C0 dX6_calculate_125 rfl 0 rfl ?_
      refine zr_iload_n C0 dX6_calculate_126 rfl 1 rfl ?_
      refine zr_iload C0 dX6_calculate_127 2 rfl ?_
      obtain ⟨_, e34, hf⟩ := zbind hf
      obtain ⟨x37, h35, e36, hf⟩ := zbind2 hf
      refine zr_callV_r C0 cv_X6_217_X6 rfl (zcko e34) (m_X6_credit C0.2.2.2.2.2.2.1 e36) (by decide) (by decide) rfl rfl (Nat.le_of_ble_eq_true rfl) dX6_calculate_129 rfl ?_
      refine zr_ladd C0 dX6_calculate_132 ?_
      obtain ⟨h38, e39, hf⟩ := zbind hf
      refine zr_last C0 dX6_calculate_133 e39 ?_
      refine zr_aload_n C0 dX6_calculate_134 rfl 0 rfl ?_
      obtain ⟨x40, e41, hf⟩ := zbind hf
      refine zr_get C0 fl_X6_23_X6 dX6_calculate_135 (zgR e41) ?_
      refine zr_iconst C0 (v := 4) dX6_calculate_138 (by decide) ?_
      refine zr_dup2_11 C0 dX6_calculate_139 rfl rfl ?_
      obtain ⟨x42, e43, hf⟩ := zbind hf
      refine zr_lald C0 dX6_calculate_140 e43 ?_
      refine zr_aload_n C0 dX6_calculate_141 rfl 0 rfl ?_
      refine zr_iload C0 dX6_calculate_142 2 rfl ?_
      refine zr_iload_n C0 dX6_calculate_144 rfl 1 rfl ?_
      obtain ⟨_, e44, hf⟩ := zbind hf
      obtain ⟨x47, h45, e46, hf⟩ := zbind2 hf
      refine zr_callV_r C0 cv_X6_217_X6 rfl (zcko e44) (m_X6_credit C0.2.2.2.2.2.2.1 e46) (by decide) (by decide) rfl rfl (Nat.le_of_ble_eq_true rfl) dX6_calculate_145 rfl ?_
      refine zr_ladd C0 dX6_calculate_148 ?_
      obtain ⟨h48, e49, hf⟩ := zbind hf
      refine zr_last C0 dX6_calculate_149 e49 ?_
      refine zr_iinc (lv' := [(4, .int (p4 + 1)), (0, .ref p0), (1, .int p1)]) C0 dX6_calculate_150 2 rfl rfl (by decide) (by first | rfl | simp [zst1, zst2, zcat_rf]) ?_
      refine zr_goto C0 (tgt := 105) dX6_calculate_153 (by decide) ?_
      refine zr_sub [1, 2, 0] rfl ?_
      exact ih _ _ _ _ hf
def f_X6_calculate_b102 (E : zE) (p0 : Nat) (p1 : Int32) (h : zH) : Option (Unit × zH) :=
  f_X6_calculate_l105 E E.1 p0 p1 (0 : Int32) h
theorem w_X6_calculate_b102 (C0 : zCx p l e R s m args below meth c D B0 5 "FranchiseLedgerModel" cX6_calculate E 4 128 (Option.none : Option Jvm.ClassFile.FieldType) "calculate") {r : Unit} {h' : zH} {p0 : Nat} {p1 : Int32} {h : zH} (hf : f_X6_calculate_b102 E p0 p1 h = some (r, h')) : zW p l e R s m args below meth c D B0 5 (zEnd D B0 R below args s (zoV r) h') h 102 [(0, .ref p0), (1, .int p1)] [] := by
  unfold f_X6_calculate_b102 at hf
  refine zr_iconst C0 (v := 0) dX6_calculate_102 (by decide) ?_
  refine zr_istore (i := 4) (lv' := [(4, .int (0 : Int32)), (0, .ref p0), (1, .int p1)]) C0 dX6_calculate_103 (by decide) (by first | rfl | simp [zst1, zst2, zcat_rf]) ?_
  refine zr_sub [1, 2, 0] rfl ?_
  exact w_X6_calculate_l105 C0 _ _ _ _ _ hf
def f_X6_calculate_l3 (E : zE) : Nat → Nat → Int32 → Int64 → Int32 → zH → Option (Unit × zH)
  | 0, _, _, _, _, _ => none
  | n + 1, p0, p1, p2, p4, h =>
    if (7 : Int32) ≤ p4 then (
      (cko h p0 1).bind fun _ =>
      bnd2 (f_X6_isActive E p0 p1 h) fun x5 h3 =>
      if x5 = 0 then (
        some ((), h3)
      ) else (
        (gR h3 p0 1 5).bind fun x7 =>
        (cko h3 p0 1).bind fun _ =>
        bnd2 (f_X6_planNow E p0 p1 h3) fun x12 h10 =>
        (cko h10 p0 1).bind fun _ =>
        bnd2 (f_X6_royaltyOf E p0 x12 p2 h10) fun x16 h14 =>
        (sL h14 x7 (0 : Int32) x16).bind fun h17 =>
        (gR h17 p0 1 5).bind fun x19 =>
        (cko h17 p0 1).bind fun _ =>
        bnd2 (f_X6_planNow E p0 p1 h17) fun x24 h22 =>
        (cko h22 p0 1).bind fun _ =>
        bnd2 (f_X6_ofPlan E p0 x24 (0 : Int32) h22) fun x28 h26 =>
        bnd2 (f_X6_rated E p2 x28 h26) fun x31 h29 =>
        (sL h29 x19 (1 : Int32) x31).bind fun h32 =>
        (cko h32 p0 1).bind fun _ =>
        bnd2 (f_X6_of E p0 p1 (4 : Int32) h32) fun x37 h35 =>
        if x37 ≤ (0 : Int64) then (
          f_X6_calculate_b102 E p0 p1 h35
        ) else (
          (gR h35 p0 1 5).bind fun x39 =>
          (cko h35 p0 1).bind fun _ =>
          bnd2 (f_X6_of E p0 p1 (4 : Int32) h35) fun x44 h42 =>
          (gR h42 p0 1 0).bind fun x45 =>
          (dL h42 x45 (6 : Int32)).bind fun x47 =>
          bnd2 (f_X6_rated E x44 x47 h42) fun x51 h49 =>
          (sL h49 x39 (2 : Int32) x51).bind fun h52 =>
          f_X6_calculate_b102 E p0 p1 h52
        )
      )
    ) else (
      (gR h p0 1 5).bind fun x54 =>
      (sL h x54 p4 (0 : Int64)).bind fun h56 =>
      f_X6_calculate_l3 E n p0 p1 p2 (p4 + 1) h56
    )
theorem w_X6_calculate_l3 (C0 : zCx p l e R s m args below meth c D B0 5 "FranchiseLedgerModel" cX6_calculate E 4 128 (Option.none : Option Jvm.ClassFile.FieldType) "calculate") {r : Unit} {h' : zH} : ∀ (n : Nat) (p0 : Nat) (p1 : Int32) (p2 : Int64) (p4 : Int32) (h : zH), f_X6_calculate_l3 E n p0 p1 p2 p4 h = some (r, h') → zW p l e R s m args below meth c D B0 5 (zEnd D B0 R below args s (zoV r) h') h 3 [(0, .ref p0), (1, .int p1), (2, .long p2), (4, .int p4)] [] := by
  intro n
  induction n with
  | zero =>
    intro p0 p1 p2 p4 h hf
    unfold f_X6_calculate_l3 at hf
    cases hf
  | succ n ih =>
    intro p0 p1 p2 p4 h hf
    unfold f_X6_calculate_l3 at hf
    refine zr_iload C0 dX6_calculate_3 3 rfl ?_
    refine zr_bipush C0 (v := 7) dX6_calculate_5 (by decide) ?_
    refine zr_icmp_ge C0 (tgt := 24) dX6_calculate_7 (by decide) (fun c1 => ?_) (fun c1 => ?_)
    · have hf := zif_t c1 hf
      refine zr_aload_n C0 dX6_calculate_24 rfl 0 rfl ?_
      refine zr_iload_n C0 dX6_calculate_25 rfl 1 rfl ?_
      obtain ⟨_, e2, hf⟩ := zbind hf
      obtain ⟨x5, h3, e4, hf⟩ := zbind2 hf
      refine zr_callV_r C0 cv_X6_128_X6 rfl (zcko e2) (m_X6_isActive C0.2.2.2.2.2.2.1 e4) (by decide) (by decide) rfl rfl (Nat.le_of_ble_eq_true rfl) dX6_calculate_26 rfl ?_
      refine zr_if_ne C0 (tgt := 33) dX6_calculate_29 (by decide) (fun c6 => ?_) (fun c6 => ?_)
      · have hf := zif_f c6 hf
        refine zr_aload_n C0 dX6_calculate_33 rfl 0 rfl ?_
        obtain ⟨x7, e8, hf⟩ := zbind hf
        refine zr_get C0 fl_X6_23_X6 dX6_calculate_34 (zgR e8) ?_
        refine zr_iconst C0 (v := 0) dX6_calculate_37 (by decide) ?_
        refine zr_aload_n C0 dX6_calculate_38 rfl 0 rfl ?_
        refine zr_aload_n C0 dX6_calculate_39 rfl 0 rfl ?_
        refine zr_iload_n C0 dX6_calculate_40 rfl 1 rfl ?_
        obtain ⟨_, e9, hf⟩ := zbind hf
        obtain ⟨x12, h10, e11, hf⟩ := zbind2 hf
        refine zr_callV_r C0 cv_X6_180_X6 rfl (zcko e9) (m_X6_planNow C0.2.2.2.2.2.2.1 e11) (by decide) (by decide) rfl rfl (Nat.le_of_ble_eq_true rfl) dX6_calculate_41 rfl ?_
        refine zr_lload_n C0 dX6_calculate_44 rfl 2 rfl ?_
        obtain ⟨_, e13, hf⟩ := zbind hf
        obtain ⟨x16, h14, e15, hf⟩ := zbind2 hf
        refine zr_callV_r C0 cv_X6_176_X6 rfl (zcko e13) (m_X6_royaltyOf C0.2.2.2.2.2.2.1 e15) (by decide) (by decide) rfl rfl (Nat.le_of_ble_eq_true rfl) dX6_calculate_45 rfl ?_
        obtain ⟨h17, e18, hf⟩ := zbind hf
        refine zr_last C0 dX6_calculate_48 e18 ?_
        refine zr_aload_n C0 dX6_calculate_49 rfl 0 rfl ?_
        obtain ⟨x19, e20, hf⟩ := zbind hf
        refine zr_get C0 fl_X6_23_X6 dX6_calculate_50 (zgR e20) ?_
        refine zr_iconst C0 (v := 1) dX6_calculate_53 (by decide) ?_
        refine zr_lload_n C0 dX6_calculate_54 rfl 2 rfl ?_
        refine zr_aload_n C0 dX6_calculate_55 rfl 0 rfl ?_
        refine zr_aload_n C0 dX6_calculate_56 rfl 0 rfl ?_
        refine zr_iload_n C0 dX6_calculate_57 rfl 1 rfl ?_
        obtain ⟨_, e21, hf⟩ := zbind hf
        obtain ⟨x24, h22, e23, hf⟩ := zbind2 hf
        refine zr_callV_r C0 cv_X6_180_X6 rfl (zcko e21) (m_X6_planNow C0.2.2.2.2.2.2.1 e23) (by decide) (by decide) rfl rfl (Nat.le_of_ble_eq_true rfl) dX6_calculate_58 rfl ?_
        refine zr_iconst C0 (v := 0) dX6_calculate_61 (by decide) ?_
        obtain ⟨_, e25, hf⟩ := zbind hf
        obtain ⟨x28, h26, e27, hf⟩ := zbind2 hf
        refine zr_callV_r C0 cv_X6_168_X6 rfl (zcko e25) (m_X6_ofPlan C0.2.2.2.2.2.2.1 e27) (by decide) (by decide) rfl rfl (Nat.le_of_ble_eq_true rfl) dX6_calculate_62 rfl ?_
        obtain ⟨x31, h29, e30, hf⟩ := zbind2 hf
        refine zr_callS_r C0 cv_X6_187 (m_X6_rated C0.2.2.2.2.2.2.1 e30) (by decide) (by decide) rfl rfl (Nat.le_of_ble_eq_true rfl) dX6_calculate_65 rfl ?_
        obtain ⟨h32, e33, hf⟩ := zbind hf
        refine zr_last C0 dX6_calculate_68 e33 ?_
        refine zr_aload_n C0 dX6_calculate_69 rfl 0 rfl ?_
        refine zr_iload_n C0 dX6_calculate_70 rfl 1 rfl ?_
        refine zr_iconst C0 (v := 4) dX6_calculate_71 (by decide) ?_
        obtain ⟨_, e34, hf⟩ := zbind hf
        obtain ⟨x37, h35, e36, hf⟩ := zbind2 hf
        refine zr_callV_r C0 cv_X6_63_X6 rfl (zcko e34) (m_X6_of C0.2.2.2.2.2.2.1 e36) (by decide) (by decide) rfl rfl (Nat.le_of_ble_eq_true rfl) dX6_calculate_72 rfl ?_
        refine zr_lconst C0 (v := 0) dX6_calculate_75 (by decide) ?_
        refine zr_lcmp C0 dX6_calculate_76 ?_
        refine zr_if_le C0 (tgt := 102) dX6_calculate_77 (by decide) (fun c38 => ?_) (fun c38 => ?_)
        · have hf := zif_t (zl_le.mp c38) hf
          refine zr_sub [0, 1] rfl ?_
          exact w_X6_calculate_b102 C0 hf
        · have hf := zif_f (zl_len.mp c38) hf
          refine zr_aload_n C0 dX6_calculate_80 rfl 0 rfl ?_
          obtain ⟨x39, e40, hf⟩ := zbind hf
          refine zr_get C0 fl_X6_23_X6 dX6_calculate_81 (zgR e40) ?_
          refine zr_iconst C0 (v := 2) dX6_calculate_84 (by decide) ?_
          refine zr_aload_n C0 dX6_calculate_85 rfl 0 rfl ?_
          refine zr_iload_n C0 dX6_calculate_86 rfl 1 rfl ?_
          refine zr_iconst C0 (v := 4) dX6_calculate_87 (by decide) ?_
          obtain ⟨_, e41, hf⟩ := zbind hf
          obtain ⟨x44, h42, e43, hf⟩ := zbind2 hf
          refine zr_callV_r C0 cv_X6_63_X6 rfl (zcko e41) (m_X6_of C0.2.2.2.2.2.2.1 e43) (by decide) (by decide) rfl rfl (Nat.le_of_ble_eq_true rfl) dX6_calculate_88 rfl ?_
          refine zr_aload_n C0 dX6_calculate_91 rfl 0 rfl ?_
          obtain ⟨x45, e46, hf⟩ := zbind hf
          refine zr_get C0 fl_X6_9_X6 dX6_calculate_92 (zgR e46) ?_
          refine zr_bipush C0 (v := 6) dX6_calculate_95 (by decide) ?_
          obtain ⟨x47, e48, hf⟩ := zbind hf
          refine zr_lald C0 dX6_calculate_97 e48 ?_
          obtain ⟨x51, h49, e50, hf⟩ := zbind2 hf
          refine zr_callS_r C0 cv_X6_187 (m_X6_rated C0.2.2.2.2.2.2.1 e50) (by decide) (by decide) rfl rfl (Nat.le_of_ble_eq_true rfl) dX6_calculate_98 rfl ?_
          obtain ⟨h52, e53, hf⟩ := zbind hf
          refine zr_last C0 dX6_calculate_101 e53 ?_
          refine zr_sub [0, 1] rfl ?_
          exact w_X6_calculate_b102 C0 hf
      · have hf := zif_t c6 hf
        refine zretW hf ?_
        exact zr_vret C0 rfl dX6_calculate_32 rfl
    · have hf := zif_f c1 hf
      refine zr_aload_n C0 dX6_calculate_10 rfl 0 rfl ?_
      obtain ⟨x54, e55, hf⟩ := zbind hf
      refine zr_get C0 fl_X6_23_X6 dX6_calculate_11 (zgR e55) ?_
      refine zr_iload C0 dX6_calculate_14 3 rfl ?_
      refine zr_lconst C0 (v := 0) dX6_calculate_16 (by decide) ?_
      obtain ⟨h56, e57, hf⟩ := zbind hf
      refine zr_last C0 dX6_calculate_17 e57 ?_
      refine zr_iinc (lv' := [(4, .int (p4 + 1)), (0, .ref p0), (1, .int p1), (2, .long p2)]) C0 dX6_calculate_18 3 rfl rfl (by decide) (by first | rfl | simp [zst1, zst2, zcat_rf]) ?_
      refine zr_goto C0 (tgt := 3) dX6_calculate_21 (by decide) ?_
      refine zr_sub [1, 2, 3, 0] rfl ?_
      exact ih _ _ _ _ _ hf
def f_X6_calculate_b0 (E : zE) (p0 : Nat) (p1 : Int32) (p2 : Int64) (h : zH) : Option (Unit × zH) :=
  f_X6_calculate_l3 E E.1 p0 p1 p2 (0 : Int32) h
theorem w_X6_calculate_b0 (C0 : zCx p l e R s m args below meth c D B0 5 "FranchiseLedgerModel" cX6_calculate E 4 128 (Option.none : Option Jvm.ClassFile.FieldType) "calculate") {r : Unit} {h' : zH} {p0 : Nat} {p1 : Int32} {p2 : Int64} {h : zH} (hf : f_X6_calculate_b0 E p0 p1 p2 h = some (r, h')) : zW p l e R s m args below meth c D B0 5 (zEnd D B0 R below args s (zoV r) h') h 0 [(0, .ref p0), (1, .int p1), (2, .long p2)] [] := by
  unfold f_X6_calculate_b0 at hf
  refine zr_iconst C0 (v := 0) dX6_calculate_0 (by decide) ?_
  refine zr_istore (i := 4) (lv' := [(4, .int (0 : Int32)), (0, .ref p0), (1, .int p1), (2, .long p2)]) C0 dX6_calculate_1 (by decide) (by first | rfl | simp [zst1, zst2, zcat_rf]) ?_
  refine zr_sub [1, 2, 3, 0] rfl ?_
  exact w_X6_calculate_l3 C0 _ _ _ _ _ _ hf
def f_X6_calculate (E : zE) (p0 : Nat) (p1 : Int32) (p2 : Int64) (h : zH) : Option (Unit × zH) := f_X6_calculate_b0 E p0 p1 p2 h
theorem m_X6_calculate {l : Launch} (hst : l.stackTraces = false) {D : zD} {B0 : Nat} {E : zE} {p0 : Nat} {p1 : Int32} {p2 : Int64} {h h' : zH} {r : Unit} (hf : f_X6_calculate E p0 p1 p2 h = some (r, h')) : zMet l yX6_calculate (ws_ yX6_calculate cX6_calculate 5 (Option.none : Option Jvm.ClassFile.FieldType)) 4 128 D B0 E [.ref p0, .int p1, .long p2] h (zoV r) h' := by
  unfold f_X6_calculate at hf
  refine zMet_of hst (by decide +kernel) rfl rfl (Nat.le_of_ble_eq_true rfl) (fun p e R s m below meth c C0 hno => ?_)
  show zW _ _ _ _ _ _ _ _ _ _ _ _ _ _ _ _ [(0, .ref p0), (1, .int p1), (2, .long p2)] []
  exact w_X6_calculate_b0 C0 hf
def f_X6_isDelayOver_b30 (E : zE) (s0 : Int32) (h : zH) : Option (Int32 × zH) :=
  (zgd .boolean s0).bind fun _ =>
  some (s0, h)
theorem w_X6_isDelayOver_b30 (C0 : zCx p l e R s m args below meth c D B0 2 "FranchiseLedgerModel" cX6_isDelayOver E 2 82 (Option.some Jvm.ClassFile.FieldType.boolean) "isDelayOver") {r : Int32} {h' : zH} {s0 : Int32} {h : zH} (hf : f_X6_isDelayOver_b30 E s0 h = some (r, h')) : zW p l e R s m args below meth c D B0 2 (zEnd D B0 R below args s (zoI r) h') h 30 [] [.int s0] := by
  unfold f_X6_isDelayOver_b30 at hf
  obtain ⟨_, e1, hf⟩ := zbind hf
  refine zretW hf ?_
  exact zr_iret C0 (ty := .boolean) rfl (zgd_n e1) dX6_isDelayOver_30 rfl
def f_X6_isDelayOver_b0 (E : zE) (p0 : Nat) (p1 : Int32) (h : zH) : Option (Int32 × zH) :=
  (gR h p0 1 0).bind fun x1 =>
  (dL h x1 (0 : Int32)).bind fun x3 =>
  (cko h p0 1).bind fun _ =>
  bnd2 (f_X6_of E p0 p1 (12 : Int32) h) fun x8 h6 =>
  (gR h6 p0 1 0).bind fun x9 =>
  (dL h6 x9 (9 : Int32)).bind fun x11 =>
  if (x3 - x8) < x11 then (
    f_X6_isDelayOver_b30 E (0 : Int32) h6
  ) else (
    f_X6_isDelayOver_b30 E (1 : Int32) h6
  )
theorem w_X6_isDelayOver_b0 (C0 : zCx p l e R s m args below meth c D B0 2 "FranchiseLedgerModel" cX6_isDelayOver E 2 82 (Option.some Jvm.ClassFile.FieldType.boolean) "isDelayOver") {r : Int32} {h' : zH} {p0 : Nat} {p1 : Int32} {h : zH} (hf : f_X6_isDelayOver_b0 E p0 p1 h = some (r, h')) : zW p l e R s m args below meth c D B0 2 (zEnd D B0 R below args s (zoI r) h') h 0 [(0, .ref p0), (1, .int p1)] [] := by
  unfold f_X6_isDelayOver_b0 at hf
  refine zr_aload_n C0 dX6_isDelayOver_0 rfl 0 rfl ?_
  obtain ⟨x1, e2, hf⟩ := zbind hf
  refine zr_get C0 fl_X6_9_X6 dX6_isDelayOver_1 (zgR e2) ?_
  refine zr_iconst C0 (v := 0) dX6_isDelayOver_4 (by decide) ?_
  obtain ⟨x3, e4, hf⟩ := zbind hf
  refine zr_lald C0 dX6_isDelayOver_5 e4 ?_
  refine zr_aload_n C0 dX6_isDelayOver_6 rfl 0 rfl ?_
  refine zr_iload_n C0 dX6_isDelayOver_7 rfl 1 rfl ?_
  refine zr_bipush C0 (v := 12) dX6_isDelayOver_8 (by decide) ?_
  obtain ⟨_, e5, hf⟩ := zbind hf
  obtain ⟨x8, h6, e7, hf⟩ := zbind2 hf
  refine zr_callV_r C0 cv_X6_63_X6 rfl (zcko e5) (m_X6_of C0.2.2.2.2.2.2.1 e7) (by decide) (by decide) rfl rfl (Nat.le_of_ble_eq_true rfl) dX6_isDelayOver_10 rfl ?_
  refine zr_lsub C0 dX6_isDelayOver_13 ?_
  refine zr_aload_n C0 dX6_isDelayOver_14 rfl 0 rfl ?_
  obtain ⟨x9, e10, hf⟩ := zbind hf
  refine zr_get C0 fl_X6_9_X6 dX6_isDelayOver_15 (zgR e10) ?_
  refine zr_bipush C0 (v := 9) dX6_isDelayOver_18 (by decide) ?_
  obtain ⟨x11, e12, hf⟩ := zbind hf
  refine zr_lald C0 dX6_isDelayOver_20 e12 ?_
  refine zr_lcmp C0 dX6_isDelayOver_21 ?_
  refine zr_if_lt C0 (tgt := 29) dX6_isDelayOver_22 (by decide) (fun c13 => ?_) (fun c13 => ?_)
  · have hf := zif_t (zl_lt.mp c13) hf
    refine zr_iconst C0 (v := 0) dX6_isDelayOver_29 (by decide) ?_
    refine zr_sub [] rfl ?_
    exact w_X6_isDelayOver_b30 C0 hf
  · have hf := zif_f (zl_ltn.mp c13) hf
    refine zr_iconst C0 (v := 1) dX6_isDelayOver_25 (by decide) ?_
    refine zr_goto C0 (tgt := 30) dX6_isDelayOver_26 (by decide) ?_
    refine zr_sub [] rfl ?_
    exact w_X6_isDelayOver_b30 C0 hf
def f_X6_isDelayOver (E : zE) (p0 : Nat) (p1 : Int32) (h : zH) : Option (Int32 × zH) := f_X6_isDelayOver_b0 E p0 p1 h
theorem m_X6_isDelayOver {l : Launch} (hst : l.stackTraces = false) {D : zD} {B0 : Nat} {E : zE} {p0 : Nat} {p1 : Int32} {h h' : zH} {r : Int32} (hf : f_X6_isDelayOver E p0 p1 h = some (r, h')) : zMet l yX6_isDelayOver (ws_ yX6_isDelayOver cX6_isDelayOver 2 (Option.some Jvm.ClassFile.FieldType.boolean)) 2 82 D B0 E [.ref p0, .int p1] h (zoI r) h' := by
  unfold f_X6_isDelayOver at hf
  refine zMet_of hst (by decide +kernel) rfl rfl (Nat.le_of_ble_eq_true rfl) (fun p e R s m below meth c C0 hno => ?_)
  show zW _ _ _ _ _ _ _ _ _ _ _ _ _ _ _ _ [(0, .ref p0), (1, .int p1)] []
  exact w_X6_isDelayOver_b0 C0 hf
def f_X6_add_b0 (E : zE) (p0 : Nat) (p1 : Int32) (p2 : Int32) (p3 : Int64) (h : zH) : Option (Unit × zH) :=
  (gR h p0 1 0).bind fun x1 =>
  (dL h x1 (((58 : Int32) + ((16 : Int32) * p1)) + p2)).bind fun x3 =>
  (sL h x1 (((58 : Int32) + ((16 : Int32) * p1)) + p2) (x3 + p3)).bind fun h5 =>
  some ((), h5)
theorem w_X6_add_b0 (C0 : zCx p l e R s m args below meth c D B0 5 "FranchiseLedgerModel" cX6_add E 1 60 (Option.none : Option Jvm.ClassFile.FieldType) "add") {r : Unit} {h' : zH} {p0 : Nat} {p1 : Int32} {p2 : Int32} {p3 : Int64} {h : zH} (hf : f_X6_add_b0 E p0 p1 p2 p3 h = some (r, h')) : zW p l e R s m args below meth c D B0 5 (zEnd D B0 R below args s (zoV r) h') h 0 [(0, .ref p0), (1, .int p1), (2, .int p2), (3, .long p3)] [] := by
  unfold f_X6_add_b0 at hf
  refine zr_aload_n C0 dX6_add_0 rfl 0 rfl ?_
  obtain ⟨x1, e2, hf⟩ := zbind hf
  refine zr_get C0 fl_X6_9_X6 dX6_add_1 (zgR e2) ?_
  refine zr_bipush C0 (v := 58) dX6_add_4 (by decide) ?_
  refine zr_bipush C0 (v := 16) dX6_add_6 (by decide) ?_
  refine zr_iload_n C0 dX6_add_8 rfl 1 rfl ?_
  refine zr_imul C0 dX6_add_9 ?_
  refine zr_iadd C0 dX6_add_10 ?_
  refine zr_iload_n C0 dX6_add_11 rfl 2 rfl ?_
  refine zr_iadd C0 dX6_add_12 ?_
  refine zr_dup2_11 C0 dX6_add_13 rfl rfl ?_
  obtain ⟨x3, e4, hf⟩ := zbind hf
  refine zr_lald C0 dX6_add_14 e4 ?_
  refine zr_lload_n C0 dX6_add_15 rfl 3 rfl ?_
  refine zr_ladd C0 dX6_add_16 ?_
  obtain ⟨h5, e6, hf⟩ := zbind hf
  refine zr_last C0 dX6_add_17 e6 ?_
  refine zretW hf ?_
  exact zr_vret C0 rfl dX6_add_18 rfl
def f_X6_add (E : zE) (p0 : Nat) (p1 : Int32) (p2 : Int32) (p3 : Int64) (h : zH) : Option (Unit × zH) := f_X6_add_b0 E p0 p1 p2 p3 h
theorem m_X6_add {l : Launch} (hst : l.stackTraces = false) {D : zD} {B0 : Nat} {E : zE} {p0 : Nat} {p1 : Int32} {p2 : Int32} {p3 : Int64} {h h' : zH} {r : Unit} (hf : f_X6_add E p0 p1 p2 p3 h = some (r, h')) : zMet l yX6_add (ws_ yX6_add cX6_add 5 (Option.none : Option Jvm.ClassFile.FieldType)) 1 60 D B0 E [.ref p0, .int p1, .int p2, .long p3] h (zoV r) h' := by
  unfold f_X6_add at hf
  refine zMet_of hst (by decide +kernel) rfl rfl (Nat.le_of_ble_eq_true rfl) (fun p e R s m below meth c C0 hno => ?_)
  show zW _ _ _ _ _ _ _ _ _ _ _ _ _ _ _ _ [(0, .ref p0), (1, .int p1), (2, .int p2), (3, .long p3)] []
  exact w_X6_add_b0 C0 hf
def f_X6_doTransfer_b0 (E : zE) (p0 : Nat) (p1 : Int32) (h : zH) : Option (Unit × zH) :=
  (cko h p0 1).bind fun _ =>
  bnd2 (f_X6_set E p0 p1 (9 : Int32) (4 : Int64) h) fun x4 h2 =>
  (cko h2 p0 1).bind fun _ =>
  bnd2 (f_X6_of E p0 p1 (10 : Int32) h2) fun x8 h6 =>
  (cko h6 p0 1).bind fun _ =>
  bnd2 (f_X6_set E p0 p1 (2 : Int32) x8 h6) fun x12 h10 =>
  (cko h10 p0 1).bind fun _ =>
  bnd2 (f_X6_add E p0 p1 (5 : Int32) (1 : Int64) h10) fun x16 h14 =>
  (cko h14 p0 1).bind fun _ =>
  bnd2 (f_X6_set E p0 p1 (6 : Int32) (0 : Int64) h14) fun x20 h18 =>
  (gR h18 p0 1 0).bind fun x21 =>
  (dL h18 x21 (8 : Int32)).bind fun x23 =>
  (cko h18 p0 1).bind fun _ =>
  bnd2 (f_X6_add E p0 p1 (4 : Int32) x23 h18) fun x28 h26 =>
  some ((), h26)
theorem w_X6_doTransfer_b0 (C0 : zCx p l e R s m args below meth c D B0 2 "FranchiseLedgerModel" cX6_doTransfer E 2 84 (Option.none : Option Jvm.ClassFile.FieldType) "doTransfer") {r : Unit} {h' : zH} {p0 : Nat} {p1 : Int32} {h : zH} (hf : f_X6_doTransfer_b0 E p0 p1 h = some (r, h')) : zW p l e R s m args below meth c D B0 2 (zEnd D B0 R below args s (zoV r) h') h 0 [(0, .ref p0), (1, .int p1)] [] := by
  unfold f_X6_doTransfer_b0 at hf
  refine zr_aload_n C0 dX6_doTransfer_0 rfl 0 rfl ?_
  refine zr_iload_n C0 dX6_doTransfer_1 rfl 1 rfl ?_
  refine zr_bipush C0 (v := 9) dX6_doTransfer_2 (by decide) ?_
  refine zr_ldc2 C0 (v := 4) q2912 dX6_doTransfer_4 ?_
  obtain ⟨_, e1, hf⟩ := zbind hf
  obtain ⟨x4, h2, e3, hf⟩ := zbind2 hf
  refine zr_callV_r C0 cv_X6_183_X6 rfl (zcko e1) (m_X6_set C0.2.2.2.2.2.2.1 e3) (by decide) (by decide) rfl rfl (Nat.le_of_ble_eq_true rfl) dX6_doTransfer_7 rfl ?_
  refine zr_aload_n C0 dX6_doTransfer_10 rfl 0 rfl ?_
  refine zr_iload_n C0 dX6_doTransfer_11 rfl 1 rfl ?_
  refine zr_iconst C0 (v := 2) dX6_doTransfer_12 (by decide) ?_
  refine zr_aload_n C0 dX6_doTransfer_13 rfl 0 rfl ?_
  refine zr_iload_n C0 dX6_doTransfer_14 rfl 1 rfl ?_
  refine zr_bipush C0 (v := 10) dX6_doTransfer_15 (by decide) ?_
  obtain ⟨_, e5, hf⟩ := zbind hf
  obtain ⟨x8, h6, e7, hf⟩ := zbind2 hf
  refine zr_callV_r C0 cv_X6_63_X6 rfl (zcko e5) (m_X6_of C0.2.2.2.2.2.2.1 e7) (by decide) (by decide) rfl rfl (Nat.le_of_ble_eq_true rfl) dX6_doTransfer_17 rfl ?_
  obtain ⟨_, e9, hf⟩ := zbind hf
  obtain ⟨x12, h10, e11, hf⟩ := zbind2 hf
  refine zr_callV_r C0 cv_X6_183_X6 rfl (zcko e9) (m_X6_set C0.2.2.2.2.2.2.1 e11) (by decide) (by decide) rfl rfl (Nat.le_of_ble_eq_true rfl) dX6_doTransfer_20 rfl ?_
  refine zr_aload_n C0 dX6_doTransfer_23 rfl 0 rfl ?_
  refine zr_iload_n C0 dX6_doTransfer_24 rfl 1 rfl ?_
  refine zr_iconst C0 (v := 5) dX6_doTransfer_25 (by decide) ?_
  refine zr_lconst C0 (v := 1) dX6_doTransfer_26 (by decide) ?_
  obtain ⟨_, e13, hf⟩ := zbind hf
  obtain ⟨x16, h14, e15, hf⟩ := zbind2 hf
  refine zr_callV_r C0 cv_X6_224_X6 rfl (zcko e13) (m_X6_add C0.2.2.2.2.2.2.1 e15) (by decide) (by decide) rfl rfl (Nat.le_of_ble_eq_true rfl) dX6_doTransfer_27 rfl ?_
  refine zr_aload_n C0 dX6_doTransfer_30 rfl 0 rfl ?_
  refine zr_iload_n C0 dX6_doTransfer_31 rfl 1 rfl ?_
  refine zr_bipush C0 (v := 6) dX6_doTransfer_32 (by decide) ?_
  refine zr_lconst C0 (v := 0) dX6_doTransfer_34 (by decide) ?_
  obtain ⟨_, e17, hf⟩ := zbind hf
  obtain ⟨x20, h18, e19, hf⟩ := zbind2 hf
  refine zr_callV_r C0 cv_X6_183_X6 rfl (zcko e17) (m_X6_set C0.2.2.2.2.2.2.1 e19) (by decide) (by decide) rfl rfl (Nat.le_of_ble_eq_true rfl) dX6_doTransfer_35 rfl ?_
  refine zr_aload_n C0 dX6_doTransfer_38 rfl 0 rfl ?_
  refine zr_iload_n C0 dX6_doTransfer_39 rfl 1 rfl ?_
  refine zr_iconst C0 (v := 4) dX6_doTransfer_40 (by decide) ?_
  refine zr_aload_n C0 dX6_doTransfer_41 rfl 0 rfl ?_
  obtain ⟨x21, e22, hf⟩ := zbind hf
  refine zr_get C0 fl_X6_9_X6 dX6_doTransfer_42 (zgR e22) ?_
  refine zr_bipush C0 (v := 8) dX6_doTransfer_45 (by decide) ?_
  obtain ⟨x23, e24, hf⟩ := zbind hf
  refine zr_lald C0 dX6_doTransfer_47 e24 ?_
  obtain ⟨_, e25, hf⟩ := zbind hf
  obtain ⟨x28, h26, e27, hf⟩ := zbind2 hf
  refine zr_callV_r C0 cv_X6_224_X6 rfl (zcko e25) (m_X6_add C0.2.2.2.2.2.2.1 e27) (by decide) (by decide) rfl rfl (Nat.le_of_ble_eq_true rfl) dX6_doTransfer_48 rfl ?_
  refine zretW hf ?_
  exact zr_vret C0 rfl dX6_doTransfer_51 rfl
def f_X6_doTransfer (E : zE) (p0 : Nat) (p1 : Int32) (h : zH) : Option (Unit × zH) := f_X6_doTransfer_b0 E p0 p1 h
theorem m_X6_doTransfer {l : Launch} (hst : l.stackTraces = false) {D : zD} {B0 : Nat} {E : zE} {p0 : Nat} {p1 : Int32} {h h' : zH} {r : Unit} (hf : f_X6_doTransfer E p0 p1 h = some (r, h')) : zMet l yX6_doTransfer (ws_ yX6_doTransfer cX6_doTransfer 2 (Option.none : Option Jvm.ClassFile.FieldType)) 2 84 D B0 E [.ref p0, .int p1] h (zoV r) h' := by
  unfold f_X6_doTransfer at hf
  refine zMet_of hst (by decide +kernel) rfl rfl (Nat.le_of_ble_eq_true rfl) (fun p e R s m below meth c C0 hno => ?_)
  show zW _ _ _ _ _ _ _ _ _ _ _ _ _ _ _ _ [(0, .ref p0), (1, .int p1)] []
  exact w_X6_doTransfer_b0 C0 hf
def f_X6_invoiceRow_b0 (E : zE) (p0 : Nat) (p1 : Int32) (p2 : Int32) (h : zH) : Option (Int32 × zH) :=
  some (((1694 : Int32) + ((7 : Int32) * (((8 : Int32) * p2) + p1))), h)
theorem w_X6_invoiceRow_b0 (C0 : zCx p l e R s m args below meth c D B0 3 "FranchiseLedgerModel" cX6_invoiceRow E 1 60 (Option.some Jvm.ClassFile.FieldType.int) "invoiceRow") {r : Int32} {h' : zH} {p0 : Nat} {p1 : Int32} {p2 : Int32} {h : zH} (hf : f_X6_invoiceRow_b0 E p0 p1 p2 h = some (r, h')) : zW p l e R s m args below meth c D B0 3 (zEnd D B0 R below args s (zoI r) h') h 0 [(0, .ref p0), (1, .int p1), (2, .int p2)] [] := by
  unfold f_X6_invoiceRow_b0 at hf
  refine zr_sipush C0 (v := 1694) dX6_invoiceRow_0 (by decide) ?_
  refine zr_bipush C0 (v := 7) dX6_invoiceRow_3 (by decide) ?_
  refine zr_bipush C0 (v := 8) dX6_invoiceRow_5 (by decide) ?_
  refine zr_iload_n C0 dX6_invoiceRow_7 rfl 2 rfl ?_
  refine zr_imul C0 dX6_invoiceRow_8 ?_
  refine zr_iload_n C0 dX6_invoiceRow_9 rfl 1 rfl ?_
  refine zr_iadd C0 dX6_invoiceRow_10 ?_
  refine zr_imul C0 dX6_invoiceRow_11 ?_
  refine zr_iadd C0 dX6_invoiceRow_12 ?_
  refine zretW hf ?_
  exact zr_iret C0 (ty := .int) rfl rfl dX6_invoiceRow_13 rfl
def f_X6_invoiceRow (E : zE) (p0 : Nat) (p1 : Int32) (p2 : Int32) (h : zH) : Option (Int32 × zH) := f_X6_invoiceRow_b0 E p0 p1 p2 h
theorem m_X6_invoiceRow {l : Launch} (hst : l.stackTraces = false) {D : zD} {B0 : Nat} {E : zE} {p0 : Nat} {p1 : Int32} {p2 : Int32} {h h' : zH} {r : Int32} (hf : f_X6_invoiceRow E p0 p1 p2 h = some (r, h')) : zMet l yX6_invoiceRow (ws_ yX6_invoiceRow cX6_invoiceRow 3 (Option.some Jvm.ClassFile.FieldType.int)) 1 60 D B0 E [.ref p0, .int p1, .int p2] h (zoI r) h' := by
  unfold f_X6_invoiceRow at hf
  refine zMet_of hst (by decide +kernel) rfl rfl (Nat.le_of_ble_eq_true rfl) (fun p e R s m below meth c C0 hno => ?_)
  show zW _ _ _ _ _ _ _ _ _ _ _ _ _ _ _ _ [(0, .ref p0), (1, .int p1), (2, .int p2)] []
  exact w_X6_invoiceRow_b0 C0 hf
def f_X6_closeMonth_l342 (E : zE) : Nat → Nat → Int32 → zH → Option (Int32 × zH)
  | 0, _, _, _ => none
  | n + 1, p0, p4, h =>
    if (1214 : Int32) ≤ p4 then (
      (gR h p0 1 0).bind fun x2 =>
      (dL h x2 (0 : Int32)).bind fun x4 =>
      (sL h x2 (0 : Int32) (x4 + (1 : Int64))).bind fun h6 =>
      (gR h6 p0 1 0).bind fun x8 =>
      (dL h6 x8 (0 : Int32)).bind fun x10 =>
      some ((x10.toInt32), h6)
    ) else (
      (gR h p0 1 0).bind fun x12 =>
      (sL h x12 p4 (0 : Int64)).bind fun h14 =>
      f_X6_closeMonth_l342 E n p0 (p4 + 1) h14
    )
theorem w_X6_closeMonth_l342 (C0 : zCx p l e R s m args below meth c D B0 8 "FranchiseLedgerModel" cX6_closeMonth E 5 152 (Option.some Jvm.ClassFile.FieldType.int) "closeMonth") {r : Int32} {h' : zH} : ∀ (n : Nat) (p0 : Nat) (p4 : Int32) (h : zH), f_X6_closeMonth_l342 E n p0 p4 h = some (r, h') → zW p l e R s m args below meth c D B0 8 (zEnd D B0 R below args s (zoI r) h') h 342 [(0, .ref p0), (4, .int p4)] [] := by
  intro n
  induction n with
  | zero =>
    intro p0 p4 h hf
    unfold f_X6_closeMonth_l342 at hf
    cases hf
  | succ n ih =>
    intro p0 p4 h hf
    unfold f_X6_closeMonth_l342 at hf
    refine zr_iload C0 dX6_closeMonth_342 1 rfl ?_
    refine zr_sipush C0 (v := 1214) dX6_closeMonth_344 (by decide) ?_
    refine zr_icmp_ge C0 (tgt := 364) dX6_closeMonth_347 (by decide) (fun c1 => ?_) (fun c1 => ?_)
    · have hf := zif_t c1 hf
      refine zr_aload_n C0 dX6_closeMonth_364 rfl 0 rfl ?_
      obtain ⟨x2, e3, hf⟩ := zbind hf
      refine zr_get C0 fl_X6_9_X6 dX6_closeMonth_365 (zgR e3) ?_
      refine zr_iconst C0 (v := 0) dX6_closeMonth_368 (by decide) ?_
      refine zr_dup2_11 C0 dX6_closeMonth_369 rfl rfl ?_
      obtain ⟨x4, e5, hf⟩ := zbind hf
      refine zr_lald C0 dX6_closeMonth_370 e5 ?_
      refine zr_lconst C0 (v := 1) dX6_closeMonth_371 (by decide) ?_
      refine zr_ladd C0 dX6_closeMonth_372 ?_
      obtain ⟨h6, e7, hf⟩ := zbind hf
      refine zr_last C0 dX6_closeMonth_373 e7 ?_
      refine zr_aload_n C0 dX6_closeMonth_374 rfl 0 rfl ?_
      obtain ⟨x8, e9, hf⟩ := zbind hf
      refine zr_get C0 fl_X6_9_X6 dX6_closeMonth_375 (zgR e9) ?_
      refine zr_iconst C0 (v := 0) dX6_closeMonth_378 (by decide) ?_
      obtain ⟨x10, e11, hf⟩ := zbind hf
      refine zr_lald C0 dX6_closeMonth_379 e11 ?_
      refine zr_l2i C0 dX6_closeMonth_380 ?_
      refine zretW hf ?_
      exact zr_iret C0 (ty := .int) rfl rfl dX6_closeMonth_381 rfl
    · have hf := zif_f c1 hf
      refine zr_aload_n C0 dX6_closeMonth_350 rfl 0 rfl ?_
      obtain ⟨x12, e13, hf⟩ := zbind hf
      refine zr_get C0 fl_X6_9_X6 dX6_closeMonth_351 (zgR e13) ?_
      refine zr_iload C0 dX6_closeMonth_354 1 rfl ?_
      refine zr_lconst C0 (v := 0) dX6_closeMonth_356 (by decide) ?_
      obtain ⟨h14, e15, hf⟩ := zbind hf
      refine zr_last C0 dX6_closeMonth_357 e15 ?_
      refine zr_iinc (lv' := [(4, .int (p4 + 1)), (0, .ref p0)]) C0 dX6_closeMonth_358 1 rfl rfl (by decide) (by first | rfl | simp [zst1, zst2, zcat_rf]) ?_
      refine zr_goto C0 (tgt := 342) dX6_closeMonth_361 (by decide) ?_
      refine zr_sub [1, 0] rfl ?_
      exact ih _ _ _ hf
def f_X6_closeMonth_l302 (E : zE) : Nat → Nat → Int32 → zH → Option (Int32 × zH)
  | 0, _, _, _ => none
  | n + 1, p0, p4, h =>
    (gR h p0 1 0).bind fun x1 =>
    (dL h x1 (3 : Int32)).bind fun x3 =>
    if x3 ≤ (p4.toInt64) then (
      f_X6_closeMonth_l342 E E.1 p0 (1150 : Int32) h
    ) else (
      (gR h p0 1 0).bind fun x6 =>
      (sL h x6 (((186 : Int32) + ((4 : Int32) * p4)) + (3 : Int32)) (0 : Int64)).bind fun h8 =>
      f_X6_closeMonth_l302 E n p0 (p4 + 1) h8
    )
theorem w_X6_closeMonth_l302 (C0 : zCx p l e R s m args below meth c D B0 8 "FranchiseLedgerModel" cX6_closeMonth E 5 152 (Option.some Jvm.ClassFile.FieldType.int) "closeMonth") {r : Int32} {h' : zH} : ∀ (n : Nat) (p0 : Nat) (p4 : Int32) (h : zH), f_X6_closeMonth_l302 E n p0 p4 h = some (r, h') → zW p l e R s m args below meth c D B0 8 (zEnd D B0 R below args s (zoI r) h') h 302 [(0, .ref p0), (4, .int p4)] [] := by
  intro n
  induction n with
  | zero =>
    intro p0 p4 h hf
    unfold f_X6_closeMonth_l302 at hf
    cases hf
  | succ n ih =>
    intro p0 p4 h hf
    unfold f_X6_closeMonth_l302 at hf
    refine zr_iload C0 dX6_closeMonth_302 1 rfl ?_
    refine zr_i2l C0 dX6_closeMonth_304 ?_
    refine zr_aload_n C0 dX6_closeMonth_305 rfl 0 rfl ?_
    obtain ⟨x1, e2, hf⟩ := zbind hf
    refine zr_get C0 fl_X6_9_X6 dX6_closeMonth_306 (zgR e2) ?_
    refine zr_iconst C0 (v := 3) dX6_closeMonth_309 (by decide) ?_
    obtain ⟨x3, e4, hf⟩ := zbind hf
    refine zr_lald C0 dX6_closeMonth_310 e4 ?_
    refine zr_lcmp C0 dX6_closeMonth_311 ?_
    refine zr_if_ge C0 (tgt := 337) dX6_closeMonth_312 (by decide) (fun c5 => ?_) (fun c5 => ?_)
    · have hf := zif_t (zl_ge.mp c5) hf
      refine zr_sipush C0 (v := 1150) dX6_closeMonth_337 (by decide) ?_
      refine zr_istore (i := 4) (lv' := [(4, .int (1150 : Int32)), (0, .ref p0)]) C0 dX6_closeMonth_340 (by decide) (by first | rfl | simp [zst1, zst2, zcat_rf]) ?_
      refine zr_sub [1, 0] rfl ?_
      exact w_X6_closeMonth_l342 C0 _ _ _ _ hf
    · have hf := zif_f (zl_gen.mp c5) hf
      refine zr_aload_n C0 dX6_closeMonth_315 rfl 0 rfl ?_
      obtain ⟨x6, e7, hf⟩ := zbind hf
      refine zr_get C0 fl_X6_9_X6 dX6_closeMonth_316 (zgR e7) ?_
      refine zr_sipush C0 (v := 186) dX6_closeMonth_319 (by decide) ?_
      refine zr_iconst C0 (v := 4) dX6_closeMonth_322 (by decide) ?_
      refine zr_iload C0 dX6_closeMonth_323 1 rfl ?_
      refine zr_imul C0 dX6_closeMonth_325 ?_
      refine zr_iadd C0 dX6_closeMonth_326 ?_
      refine zr_iconst C0 (v := 3) dX6_closeMonth_327 (by decide) ?_
      refine zr_iadd C0 dX6_closeMonth_328 ?_
      refine zr_lconst C0 (v := 0) dX6_closeMonth_329 (by decide) ?_
      obtain ⟨h8, e9, hf⟩ := zbind hf
      refine zr_last C0 dX6_closeMonth_330 e9 ?_
      refine zr_iinc (lv' := [(4, .int (p4 + 1)), (0, .ref p0)]) C0 dX6_closeMonth_331 1 rfl rfl (by decide) (by first | rfl | simp [zst1, zst2, zcat_rf]) ?_
      refine zr_goto C0 (tgt := 302) dX6_closeMonth_334 (by decide) ?_
      refine zr_sub [1, 0] rfl ?_
      exact ih _ _ _ hf
def f_X6_closeMonth_b271 (E : zE) (k228 : Nat → Int32 → Int32 → zH → Option (Int32 × zH)) (p0 : Nat) (p1 : Int32) (p4 : Int32) (h : zH) : Option (Int32 × zH) :=
  (gR h p0 1 0).bind fun x1 =>
  (cko h p0 1).bind fun _ =>
  bnd2 (f_X6_invoiceRow E p0 p4 p1 h) fun x6 h4 =>
  (cko h4 p0 1).bind fun _ =>
  bnd2 (f_X6_of E p0 p4 (4 : Int32) h4) fun x10 h8 =>
  (sL h8 x1 (x6 + (6 : Int32)) x10).bind fun h11 =>
  k228 p0 p1 (p4 + 1) h11
theorem w_X6_closeMonth_b271 (C0 : zCx p l e R s m args below meth c D B0 8 "FranchiseLedgerModel" cX6_closeMonth E 5 152 (Option.some Jvm.ClassFile.FieldType.int) "closeMonth") {r : Int32} {h' : zH} {k228 : Nat → Int32 → Int32 → zH → Option (Int32 × zH)} (hk228 : ∀ (p0 : Nat) (p1 : Int32) (p4 : Int32) (h : zH), k228 p0 p1 p4 h = some (r, h') → zW p l e R s m args below meth c D B0 8 (zEnd D B0 R below args s (zoI r) h') h 228 [(0, .ref p0), (1, .int p1), (4, .int p4)] []) {p0 : Nat} {p1 : Int32} {p4 : Int32} {h : zH} (hf : f_X6_closeMonth_b271 E k228 p0 p1 p4 h = some (r, h')) : zW p l e R s m args below meth c D B0 8 (zEnd D B0 R below args s (zoI r) h') h 271 [(0, .ref p0), (1, .int p1), (4, .int p4)] [] := by
  unfold f_X6_closeMonth_b271 at hf
  refine zr_aload_n C0 dX6_closeMonth_271 rfl 0 rfl ?_
  obtain ⟨x1, e2, hf⟩ := zbind hf
  refine zr_get C0 fl_X6_9_X6 dX6_closeMonth_272 (zgR e2) ?_
  refine zr_aload_n C0 dX6_closeMonth_275 rfl 0 rfl ?_
  refine zr_iload C0 dX6_closeMonth_276 2 rfl ?_
  refine zr_iload_n C0 dX6_closeMonth_278 rfl 1 rfl ?_
  obtain ⟨_, e3, hf⟩ := zbind hf
  obtain ⟨x6, h4, e5, hf⟩ := zbind2 hf
  refine zr_callV_r C0 cv_X6_231_X6 rfl (zcko e3) (m_X6_invoiceRow C0.2.2.2.2.2.2.1 e5) (by decide) (by decide) rfl rfl (Nat.le_of_ble_eq_true rfl) dX6_closeMonth_279 rfl ?_
  refine zr_bipush C0 (v := 6) dX6_closeMonth_282 (by decide) ?_
  refine zr_iadd C0 dX6_closeMonth_284 ?_
  refine zr_aload_n C0 dX6_closeMonth_285 rfl 0 rfl ?_
  refine zr_iload C0 dX6_closeMonth_286 2 rfl ?_
  refine zr_iconst C0 (v := 4) dX6_closeMonth_288 (by decide) ?_
  obtain ⟨_, e7, hf⟩ := zbind hf
  obtain ⟨x10, h8, e9, hf⟩ := zbind2 hf
  refine zr_callV_r C0 cv_X6_63_X6 rfl (zcko e7) (m_X6_of C0.2.2.2.2.2.2.1 e9) (by decide) (by decide) rfl rfl (Nat.le_of_ble_eq_true rfl) dX6_closeMonth_289 rfl ?_
  obtain ⟨h11, e12, hf⟩ := zbind hf
  refine zr_last C0 dX6_closeMonth_292 e12 ?_
  refine zr_iinc (lv' := [(4, .int (p4 + 1)), (0, .ref p0), (1, .int p1)]) C0 dX6_closeMonth_293 2 rfl rfl (by decide) (by first | rfl | simp [zst1, zst2, zcat_rf]) ?_
  refine zr_goto C0 (tgt := 228) dX6_closeMonth_296 (by decide) ?_
  refine zr_sub [1, 2, 0] rfl ?_
  exact hk228 _ _ _ _ hf
def f_X6_closeMonth_l228 (E : zE) : Nat → Nat → Int32 → Int32 → zH → Option (Int32 × zH)
  | 0, _, _, _, _ => none
  | n + 1, p0, p1, p4, h =>
    (gR h p0 1 0).bind fun x1 =>
    (dL h x1 (2 : Int32)).bind fun x3 =>
    if x3 ≤ (p4.toInt64) then (
      f_X6_closeMonth_l302 E E.1 p0 (0 : Int32) h
    ) else (
      (cko h p0 1).bind fun _ =>
      bnd2 (f_X6_of E p0 p4 (9 : Int32) h) fun x9 h7 =>
      if x9 = (2 : Int64) then (
        (cko h7 p0 1).bind fun _ =>
        bnd2 (f_X6_isDelayOver E p0 p4 h7) fun x14 h12 =>
        if x14 = 0 then (
          f_X6_closeMonth_b271 E (f_X6_closeMonth_l228 E n) p0 p1 p4 h12
        ) else (
          (cko h12 p0 1).bind fun _ =>
          bnd2 (f_X6_doTransfer E p0 p4 h12) fun x19 h17 =>
          f_X6_closeMonth_b271 E (f_X6_closeMonth_l228 E n) p0 p1 p4 h17
        )
      ) else (
        f_X6_closeMonth_b271 E (f_X6_closeMonth_l228 E n) p0 p1 p4 h7
      )
    )
theorem w_X6_closeMonth_l228 (C0 : zCx p l e R s m args below meth c D B0 8 "FranchiseLedgerModel" cX6_closeMonth E 5 152 (Option.some Jvm.ClassFile.FieldType.int) "closeMonth") {r : Int32} {h' : zH} : ∀ (n : Nat) (p0 : Nat) (p1 : Int32) (p4 : Int32) (h : zH), f_X6_closeMonth_l228 E n p0 p1 p4 h = some (r, h') → zW p l e R s m args below meth c D B0 8 (zEnd D B0 R below args s (zoI r) h') h 228 [(0, .ref p0), (1, .int p1), (4, .int p4)] [] := by
  intro n
  induction n with
  | zero =>
    intro p0 p1 p4 h hf
    unfold f_X6_closeMonth_l228 at hf
    cases hf
  | succ n ih =>
    intro p0 p1 p4 h hf
    unfold f_X6_closeMonth_l228 at hf
    refine zr_iload C0 dX6_closeMonth_228 2 rfl ?_
    refine zr_i2l C0 dX6_closeMonth_230 ?_
    refine zr_aload_n C0 dX6_closeMonth_231 rfl 0 rfl ?_
    obtain ⟨x1, e2, hf⟩ := zbind hf
    refine zr_get C0 fl_X6_9_X6 dX6_closeMonth_232 (zgR e2) ?_
    refine zr_iconst C0 (v := 2) dX6_closeMonth_235 (by decide) ?_
    obtain ⟨x3, e4, hf⟩ := zbind hf
    refine zr_lald C0 dX6_closeMonth_236 e4 ?_
    refine zr_lcmp C0 dX6_closeMonth_237 ?_
    refine zr_if_ge C0 (tgt := 299) dX6_closeMonth_238 (by decide) (fun c5 => ?_) (fun c5 => ?_)
    · have hf := zif_t (zl_ge.mp c5) hf
      refine zr_iconst C0 (v := 0) dX6_closeMonth_299 (by decide) ?_
      refine zr_istore (i := 4) (lv' := [(4, .int (0 : Int32)), (0, .ref p0), (1, .int p1)]) C0 dX6_closeMonth_300 (by decide) (by first | rfl | simp [zst1, zst2, zcat_rf]) ?_
      refine zr_sub [1, 0] rfl ?_
      exact w_X6_closeMonth_l302 C0 _ _ _ _ hf
    · have hf := zif_f (zl_gen.mp c5) hf
      refine zr_aload_n C0 dX6_closeMonth_241 rfl 0 rfl ?_
      refine zr_iload C0 dX6_closeMonth_242 2 rfl ?_
      refine zr_bipush C0 (v := 9) dX6_closeMonth_244 (by decide) ?_
      obtain ⟨_, e6, hf⟩ := zbind hf
      obtain ⟨x9, h7, e8, hf⟩ := zbind2 hf
      refine zr_callV_r C0 cv_X6_63_X6 rfl (zcko e6) (m_X6_of C0.2.2.2.2.2.2.1 e8) (by decide) (by decide) rfl rfl (Nat.le_of_ble_eq_true rfl) dX6_closeMonth_246 rfl ?_
      refine zr_ldc2 C0 (v := 2) q2903 dX6_closeMonth_249 ?_
      refine zr_lcmp C0 dX6_closeMonth_252 ?_
      refine zr_if_ne C0 (tgt := 271) dX6_closeMonth_253 (by decide) (fun c10 => ?_) (fun c10 => ?_)
      · have hf := zif_f (zl_ne.mp c10) hf
        exact w_X6_closeMonth_b271 C0 ih hf
      · have hf := zif_t (zl_nen.mp c10) hf
        refine zr_aload_n C0 dX6_closeMonth_256 rfl 0 rfl ?_
        refine zr_iload C0 dX6_closeMonth_257 2 rfl ?_
        obtain ⟨_, e11, hf⟩ := zbind hf
        obtain ⟨x14, h12, e13, hf⟩ := zbind2 hf
        refine zr_callV_r C0 cv_X6_234_X6 rfl (zcko e11) (m_X6_isDelayOver C0.2.2.2.2.2.2.1 e13) (by decide) (by decide) rfl rfl (Nat.le_of_ble_eq_true rfl) dX6_closeMonth_259 rfl ?_
        refine zr_if_eq C0 (tgt := 271) dX6_closeMonth_262 (by decide) (fun c15 => ?_) (fun c15 => ?_)
        · have hf := zif_t c15 hf
          exact w_X6_closeMonth_b271 C0 ih hf
        · have hf := zif_f c15 hf
          refine zr_aload_n C0 dX6_closeMonth_265 rfl 0 rfl ?_
          refine zr_iload C0 dX6_closeMonth_266 2 rfl ?_
          obtain ⟨_, e16, hf⟩ := zbind hf
          obtain ⟨x19, h17, e18, hf⟩ := zbind2 hf
          refine zr_callV_r C0 cv_X6_237_X6 rfl (zcko e16) (m_X6_doTransfer C0.2.2.2.2.2.2.1 e18) (by decide) (by decide) rfl rfl (Nat.le_of_ble_eq_true rfl) dX6_closeMonth_268 rfl ?_
          exact w_X6_closeMonth_b271 C0 ih hf
def f_X6_closeMonth_b162 (E : zE) (k32 : Nat → Int32 → Int64 → Int32 → zH → Option (Int32 × zH)) (p0 : Nat) (p1 : Int32) (p2 : Int64) (p4 : Int32) (h : zH) : Option (Int32 × zH) :=
  (gR h p0 1 5).bind fun x1 =>
  (dL h x1 (5 : Int32)).bind fun x3 =>
  (cko h p0 1).bind fun _ =>
  bnd2 (f_X6_add E p0 p4 (4 : Int32) x3 h) fun x8 h6 =>
  (gR h6 p0 1 5).bind fun x9 =>
  (dL h6 x9 (1 : Int32)).bind fun x11 =>
  (cko h6 p0 1).bind fun _ =>
  bnd2 (f_X6_add E p0 p4 (7 : Int32) x11 h6) fun x16 h14 =>
  (gR h14 p0 1 5).bind fun x17 =>
  (dL h14 x17 (1 : Int32)).bind fun x19 =>
  k32 p0 p1 (p2 + x19) (p4 + 1) h14
theorem w_X6_closeMonth_b162 (C0 : zCx p l e R s m args below meth c D B0 8 "FranchiseLedgerModel" cX6_closeMonth E 5 152 (Option.some Jvm.ClassFile.FieldType.int) "closeMonth") {r : Int32} {h' : zH} {k32 : Nat → Int32 → Int64 → Int32 → zH → Option (Int32 × zH)} (hk32 : ∀ (p0 : Nat) (p1 : Int32) (p2 : Int64) (p4 : Int32) (h : zH), k32 p0 p1 p2 p4 h = some (r, h') → zW p l e R s m args below meth c D B0 8 (zEnd D B0 R below args s (zoI r) h') h 32 [(0, .ref p0), (1, .int p1), (2, .long p2), (4, .int p4)] []) {p0 : Nat} {p1 : Int32} {p2 : Int64} {p4 : Int32} {h : zH} (hf : f_X6_closeMonth_b162 E k32 p0 p1 p2 p4 h = some (r, h')) : zW p l e R s m args below meth c D B0 8 (zEnd D B0 R below args s (zoI r) h') h 162 [(0, .ref p0), (1, .int p1), (2, .long p2), (4, .int p4)] [] := by
  unfold f_X6_closeMonth_b162 at hf
  refine zr_aload_n C0 dX6_closeMonth_162 rfl 0 rfl ?_
  refine zr_iload C0 dX6_closeMonth_163 3 rfl ?_
  refine zr_iconst C0 (v := 4) dX6_closeMonth_165 (by decide) ?_
  refine zr_aload_n C0 dX6_closeMonth_166 rfl 0 rfl ?_
  obtain ⟨x1, e2, hf⟩ := zbind hf
  refine zr_get C0 fl_X6_23_X6 dX6_closeMonth_167 (zgR e2) ?_
  refine zr_iconst C0 (v := 5) dX6_closeMonth_170 (by decide) ?_
  obtain ⟨x3, e4, hf⟩ := zbind hf
  refine zr_lald C0 dX6_closeMonth_171 e4 ?_
  obtain ⟨_, e5, hf⟩ := zbind hf
  obtain ⟨x8, h6, e7, hf⟩ := zbind2 hf
  refine zr_callV_r C0 cv_X6_224_X6 rfl (zcko e5) (m_X6_add C0.2.2.2.2.2.2.1 e7) (by decide) (by decide) rfl rfl (Nat.le_of_ble_eq_true rfl) dX6_closeMonth_172 rfl ?_
  refine zr_aload_n C0 dX6_closeMonth_175 rfl 0 rfl ?_
  refine zr_iload C0 dX6_closeMonth_176 3 rfl ?_
  refine zr_bipush C0 (v := 7) dX6_closeMonth_178 (by decide) ?_
  refine zr_aload_n C0 dX6_closeMonth_180 rfl 0 rfl ?_
  obtain ⟨x9, e10, hf⟩ := zbind hf
  refine zr_get C0 fl_X6_23_X6 dX6_closeMonth_181 (zgR e10) ?_
  refine zr_iconst C0 (v := 1) dX6_closeMonth_184 (by decide) ?_
  obtain ⟨x11, e12, hf⟩ := zbind hf
  refine zr_lald C0 dX6_closeMonth_185 e12 ?_
  obtain ⟨_, e13, hf⟩ := zbind hf
  obtain ⟨x16, h14, e15, hf⟩ := zbind2 hf
  refine zr_callV_r C0 cv_X6_224_X6 rfl (zcko e13) (m_X6_add C0.2.2.2.2.2.2.1 e15) (by decide) (by decide) rfl rfl (Nat.le_of_ble_eq_true rfl) dX6_closeMonth_186 rfl ?_
  refine zr_lload_n C0 dX6_closeMonth_189 rfl 2 rfl ?_
  refine zr_aload_n C0 dX6_closeMonth_190 rfl 0 rfl ?_
  obtain ⟨x17, e18, hf⟩ := zbind hf
  refine zr_get C0 fl_X6_23_X6 dX6_closeMonth_191 (zgR e18) ?_
  refine zr_iconst C0 (v := 1) dX6_closeMonth_194 (by decide) ?_
  obtain ⟨x19, e20, hf⟩ := zbind hf
  refine zr_lald C0 dX6_closeMonth_195 e20 ?_
  refine zr_ladd C0 dX6_closeMonth_196 ?_
  refine zr_lstore_n (i := 2) (lv' := [(2, .long (p2 + x19)), (0, .ref p0), (1, .int p1), (4, .int p4)]) C0 dX6_closeMonth_197 rfl (by decide) (by first | rfl | simp [zst1, zst2, zcat_rf]) ?_
  refine zr_iinc (lv' := [(4, .int (p4 + 1)), (2, .long (p2 + x19)), (0, .ref p0), (1, .int p1)]) C0 dX6_closeMonth_198 3 rfl rfl (by decide) (by first | rfl | simp [zst1, zst2, zcat_rf]) ?_
  refine zr_goto C0 (tgt := 32) dX6_closeMonth_201 (by decide) ?_
  refine zr_sub [2, 3, 1, 0] rfl ?_
  exact hk32 _ _ _ _ _ hf
def f_X6_closeMonth_b159 (E : zE) (k32 : Nat → Int32 → Int64 → Int32 → zH → Option (Int32 × zH)) (p0 : Nat) (p1 : Int32) (p2 : Int64) (p4 : Int32) (s0 : Nat) (s1 : Int32) (s2 : Int32) (s3 : Int64) (h : zH) : Option (Int32 × zH) :=
  (cko h s0 1).bind fun _ =>
  bnd2 (f_X6_set E s0 s1 s2 s3 h) fun x4 h2 =>
  f_X6_closeMonth_b162 E k32 p0 p1 p2 p4 h2
theorem w_X6_closeMonth_b159 (C0 : zCx p l e R s m args below meth c D B0 8 "FranchiseLedgerModel" cX6_closeMonth E 5 152 (Option.some Jvm.ClassFile.FieldType.int) "closeMonth") {r : Int32} {h' : zH} {k32 : Nat → Int32 → Int64 → Int32 → zH → Option (Int32 × zH)} (hk32 : ∀ (p0 : Nat) (p1 : Int32) (p2 : Int64) (p4 : Int32) (h : zH), k32 p0 p1 p2 p4 h = some (r, h') → zW p l e R s m args below meth c D B0 8 (zEnd D B0 R below args s (zoI r) h') h 32 [(0, .ref p0), (1, .int p1), (2, .long p2), (4, .int p4)] []) {p0 : Nat} {p1 : Int32} {p2 : Int64} {p4 : Int32} {s0 : Nat} {s1 : Int32} {s2 : Int32} {s3 : Int64} {h : zH} (hf : f_X6_closeMonth_b159 E k32 p0 p1 p2 p4 s0 s1 s2 s3 h = some (r, h')) : zW p l e R s m args below meth c D B0 8 (zEnd D B0 R below args s (zoI r) h') h 159 [(0, .ref p0), (1, .int p1), (2, .long p2), (4, .int p4)] [.long s3, .int s2, .int s1, .ref s0] := by
  unfold f_X6_closeMonth_b159 at hf
  obtain ⟨_, e1, hf⟩ := zbind hf
  obtain ⟨x4, h2, e3, hf⟩ := zbind2 hf
  refine zr_callV_r C0 cv_X6_183_X6 rfl (zcko e1) (m_X6_set C0.2.2.2.2.2.2.1 e3) (by decide) (by decide) rfl rfl (Nat.le_of_ble_eq_true rfl) dX6_closeMonth_159 rfl ?_
  exact w_X6_closeMonth_b162 C0 hk32 hf
def f_X6_closeMonth_l84 (E : zE) (k32 : Nat → Int32 → Int64 → Int32 → zH → Option (Int32 × zH)) : Nat → Nat → Int32 → Int64 → Int32 → Int32 → zH → Option (Int32 × zH)
  | 0, _, _, _, _, _, _ => none
  | n + 1, p0, p1, p2, p4, p7, h =>
    if (7 : Int32) ≤ p7 then (
      (cko h p0 1).bind fun _ =>
      bnd2 (f_X6_isActive E p0 p4 h) fun x5 h3 =>
      if x5 = 0 then (
        f_X6_closeMonth_b162 E k32 p0 p1 p2 p4 h3
      ) else (
        (cko h3 p0 1).bind fun _ =>
        bnd2 (f_X6_of E p0 p4 (4 : Int32) h3) fun x10 h8 =>
        if x10 ≤ (0 : Int64) then (
          f_X6_closeMonth_b159 E k32 p0 p1 p2 p4 p0 p4 (6 : Int32) (0 : Int64) h8
        ) else (
          (cko h8 p0 1).bind fun _ =>
          bnd2 (f_X6_of E p0 p4 (6 : Int32) h8) fun x15 h13 =>
          f_X6_closeMonth_b159 E k32 p0 p1 p2 p4 p0 p4 (6 : Int32) (x15 + (1 : Int64)) h13
        )
      )
    ) else (
      (gR h p0 1 0).bind fun x16 =>
      (cko h p0 1).bind fun _ =>
      bnd2 (f_X6_invoiceRow E p0 p4 p1 h) fun x21 h19 =>
      (gR h19 p0 1 5).bind fun x22 =>
      (dL h19 x22 p7).bind fun x24 =>
      (sL h19 x16 (x21 + p7) x24).bind fun h26 =>
      f_X6_closeMonth_l84 E k32 n p0 p1 p2 p4 (p7 + 1) h26
    )
theorem w_X6_closeMonth_l84 (C0 : zCx p l e R s m args below meth c D B0 8 "FranchiseLedgerModel" cX6_closeMonth E 5 152 (Option.some Jvm.ClassFile.FieldType.int) "closeMonth") {r : Int32} {h' : zH} {k32 : Nat → Int32 → Int64 → Int32 → zH → Option (Int32 × zH)} (hk32 : ∀ (p0 : Nat) (p1 : Int32) (p2 : Int64) (p4 : Int32) (h : zH), k32 p0 p1 p2 p4 h = some (r, h') → zW p l e R s m args below meth c D B0 8 (zEnd D B0 R below args s (zoI r) h') h 32 [(0, .ref p0), (1, .int p1), (2, .long p2), (4, .int p4)] []) : ∀ (n : Nat) (p0 : Nat) (p1 : Int32) (p2 : Int64) (p4 : Int32) (p7 : Int32) (h : zH), f_X6_closeMonth_l84 E k32 n p0 p1 p2 p4 p7 h = some (r, h') → zW p l e R s m args below meth c D B0 8 (zEnd D B0 R below args s (zoI r) h') h 84 [(0, .ref p0), (1, .int p1), (2, .long p2), (4, .int p4), (7, .int p7)] [] := by
  intro n
  induction n with
  | zero =>
    intro p0 p1 p2 p4 p7 h hf
    unfold f_X6_closeMonth_l84 at hf
    cases hf
  | succ n ih =>
    intro p0 p1 p2 p4 p7 h hf
    unfold f_X6_closeMonth_l84 at hf
    refine zr_iload C0 dX6_closeMonth_84 4 rfl ?_
    refine zr_bipush C0 (v := 7) dX6_closeMonth_86 (by decide) ?_
    refine zr_icmp_ge C0 (tgt := 119) dX6_closeMonth_88 (by decide) (fun c1 => ?_) (fun c1 => ?_)
    · have hf := zif_t c1 hf
      refine zr_aload_n C0 dX6_closeMonth_119 rfl 0 rfl ?_
      refine zr_iload C0 dX6_closeMonth_120 3 rfl ?_
      obtain ⟨_, e2, hf⟩ := zbind hf
      obtain ⟨x5, h3, e4, hf⟩ := zbind2 hf
      refine zr_callV_r C0 cv_X6_128_X6 rfl (zcko e2) (m_X6_isActive C0.2.2.2.2.2.2.1 e4) (by decide) (by decide) rfl rfl (Nat.le_of_ble_eq_true rfl) dX6_closeMonth_122 rfl ?_
      refine zr_if_eq C0 (tgt := 162) dX6_closeMonth_125 (by decide) (fun c6 => ?_) (fun c6 => ?_)
      · have hf := zif_t c6 hf
        refine zr_sub [0, 1, 2, 3] rfl ?_
        exact w_X6_closeMonth_b162 C0 hk32 hf
      · have hf := zif_f c6 hf
        refine zr_aload_n C0 dX6_closeMonth_128 rfl 0 rfl ?_
        refine zr_iload C0 dX6_closeMonth_129 3 rfl ?_
        refine zr_bipush C0 (v := 6) dX6_closeMonth_131 (by decide) ?_
        refine zr_aload_n C0 dX6_closeMonth_133 rfl 0 rfl ?_
        refine zr_iload C0 dX6_closeMonth_134 3 rfl ?_
        refine zr_iconst C0 (v := 4) dX6_closeMonth_136 (by decide) ?_
        obtain ⟨_, e7, hf⟩ := zbind hf
        obtain ⟨x10, h8, e9, hf⟩ := zbind2 hf
        refine zr_callV_r C0 cv_X6_63_X6 rfl (zcko e7) (m_X6_of C0.2.2.2.2.2.2.1 e9) (by decide) (by decide) rfl rfl (Nat.le_of_ble_eq_true rfl) dX6_closeMonth_137 rfl ?_
        refine zr_lconst C0 (v := 0) dX6_closeMonth_140 (by decide) ?_
        refine zr_lcmp C0 dX6_closeMonth_141 ?_
        refine zr_if_le C0 (tgt := 158) dX6_closeMonth_142 (by decide) (fun c11 => ?_) (fun c11 => ?_)
        · have hf := zif_t (zl_le.mp c11) hf
          refine zr_lconst C0 (v := 0) dX6_closeMonth_158 (by decide) ?_
          refine zr_sub [0, 1, 2, 3] rfl ?_
          exact w_X6_closeMonth_b159 C0 hk32 hf
        · have hf := zif_f (zl_len.mp c11) hf
          refine zr_aload_n C0 dX6_closeMonth_145 rfl 0 rfl ?_
          refine zr_iload C0 dX6_closeMonth_146 3 rfl ?_
          refine zr_bipush C0 (v := 6) dX6_closeMonth_148 (by decide) ?_
          obtain ⟨_, e12, hf⟩ := zbind hf
          obtain ⟨x15, h13, e14, hf⟩ := zbind2 hf
          refine zr_callV_r C0 cv_X6_63_X6 rfl (zcko e12) (m_X6_of C0.2.2.2.2.2.2.1 e14) (by decide) (by decide) rfl rfl (Nat.le_of_ble_eq_true rfl) dX6_closeMonth_150 rfl ?_
          refine zr_lconst C0 (v := 1) dX6_closeMonth_153 (by decide) ?_
          refine zr_ladd C0 dX6_closeMonth_154 ?_
          refine zr_goto C0 (tgt := 159) dX6_closeMonth_155 (by decide) ?_
          refine zr_sub [0, 1, 2, 3] rfl ?_
          exact w_X6_closeMonth_b159 C0 hk32 hf
    · have hf := zif_f c1 hf
      refine zr_aload_n C0 dX6_closeMonth_91 rfl 0 rfl ?_
      obtain ⟨x16, e17, hf⟩ := zbind hf
      refine zr_get C0 fl_X6_9_X6 dX6_closeMonth_92 (zgR e17) ?_
      refine zr_aload_n C0 dX6_closeMonth_95 rfl 0 rfl ?_
      refine zr_iload C0 dX6_closeMonth_96 3 rfl ?_
      refine zr_iload_n C0 dX6_closeMonth_98 rfl 1 rfl ?_
      obtain ⟨_, e18, hf⟩ := zbind hf
      obtain ⟨x21, h19, e20, hf⟩ := zbind2 hf
      refine zr_callV_r C0 cv_X6_231_X6 rfl (zcko e18) (m_X6_invoiceRow C0.2.2.2.2.2.2.1 e20) (by decide) (by decide) rfl rfl (Nat.le_of_ble_eq_true rfl) dX6_closeMonth_99 rfl ?_
      refine zr_iload C0 dX6_closeMonth_102 4 rfl ?_
      refine zr_iadd C0 dX6_closeMonth_104 ?_
      refine zr_aload_n C0 dX6_closeMonth_105 rfl 0 rfl ?_
      obtain ⟨x22, e23, hf⟩ := zbind hf
      refine zr_get C0 fl_X6_23_X6 dX6_closeMonth_106 (zgR e23) ?_
      refine zr_iload C0 dX6_closeMonth_109 4 rfl ?_
      obtain ⟨x24, e25, hf⟩ := zbind hf
      refine zr_lald C0 dX6_closeMonth_111 e25 ?_
      obtain ⟨h26, e27, hf⟩ := zbind hf
      refine zr_last C0 dX6_closeMonth_112 e27 ?_
      refine zr_iinc (lv' := [(7, .int (p7 + 1)), (0, .ref p0), (1, .int p1), (2, .long p2), (4, .int p4)]) C0 dX6_closeMonth_113 4 rfl rfl (by decide) (by first | rfl | simp [zst1, zst2, zcat_rf]) ?_
      refine zr_goto C0 (tgt := 84) dX6_closeMonth_116 (by decide) ?_
      refine zr_sub [1, 2, 3, 4, 0] rfl ?_
      exact ih _ _ _ _ _ _ hf
def f_X6_closeMonth_l32 (E : zE) : Nat → Nat → Int32 → Int64 → Int32 → zH → Option (Int32 × zH)
  | 0, _, _, _, _, _ => none
  | n + 1, p0, p1, p2, p4, h =>
    (gR h p0 1 0).bind fun x1 =>
    (dL h x1 (2 : Int32)).bind fun x3 =>
    if x3 ≤ (p4.toInt64) then (
      (gR h p0 1 0).bind fun x6 =>
      (dL h x6 (11 : Int32)).bind fun x8 =>
      (gR h p0 1 0).bind fun x10 =>
      (dL h x10 (7 : Int32)).bind fun x12 =>
      bnd2 (f_X6_rated E p2 x12 h) fun x16 h14 =>
      (sL h14 x6 (11 : Int32) (x8 + x16)).bind fun h17 =>
      f_X6_closeMonth_l228 E E.1 p0 p1 (0 : Int32) h17
    ) else (
      (cko h p0 1).bind fun _ =>
      bnd2 (f_X6_salesNow E p0 p4 (100 : Int32) h) fun x22 h20 =>
      (gR h20 p0 1 0).bind fun x23 =>
      (sL h20 x23 (((1214 : Int32) + ((8 : Int32) * p1)) + p4) x22).bind fun h25 =>
      (cko h25 p0 1).bind fun _ =>
      bnd2 (f_X6_calculate E p0 p4 x22 h25) fun x30 h28 =>
      f_X6_closeMonth_l84 E (f_X6_closeMonth_l32 E n) E.1 p0 p1 p2 p4 (0 : Int32) h28
    )
theorem w_X6_closeMonth_l32 (C0 : zCx p l e R s m args below meth c D B0 8 "FranchiseLedgerModel" cX6_closeMonth E 5 152 (Option.some Jvm.ClassFile.FieldType.int) "closeMonth") {r : Int32} {h' : zH} : ∀ (n : Nat) (p0 : Nat) (p1 : Int32) (p2 : Int64) (p4 : Int32) (h : zH), f_X6_closeMonth_l32 E n p0 p1 p2 p4 h = some (r, h') → zW p l e R s m args below meth c D B0 8 (zEnd D B0 R below args s (zoI r) h') h 32 [(0, .ref p0), (1, .int p1), (2, .long p2), (4, .int p4)] [] := by
  intro n
  induction n with
  | zero =>
    intro p0 p1 p2 p4 h hf
    unfold f_X6_closeMonth_l32 at hf
    cases hf
  | succ n ih =>
    intro p0 p1 p2 p4 h hf
    unfold f_X6_closeMonth_l32 at hf
    refine zr_iload C0 dX6_closeMonth_32 3 rfl ?_
    refine zr_i2l C0 dX6_closeMonth_34 ?_
    refine zr_aload_n C0 dX6_closeMonth_35 rfl 0 rfl ?_
    obtain ⟨x1, e2, hf⟩ := zbind hf
    refine zr_get C0 fl_X6_9_X6 dX6_closeMonth_36 (zgR e2) ?_
    refine zr_iconst C0 (v := 2) dX6_closeMonth_39 (by decide) ?_
    obtain ⟨x3, e4, hf⟩ := zbind hf
    refine zr_lald C0 dX6_closeMonth_40 e4 ?_
    refine zr_lcmp C0 dX6_closeMonth_41 ?_
    refine zr_if_ge C0 (tgt := 204) dX6_closeMonth_42 (by decide) (fun c5 => ?_) (fun c5 => ?_)
    · have hf := zif_t (zl_ge.mp c5) hf
      refine zr_aload_n C0 dX6_closeMonth_204 rfl 0 rfl ?_
      obtain ⟨x6, e7, hf⟩ := zbind hf
      refine zr_get C0 fl_X6_9_X6 dX6_closeMonth_205 (zgR e7) ?_
      refine zr_bipush C0 (v := 11) dX6_closeMonth_208 (by decide) ?_
      refine zr_dup2_11 C0 dX6_closeMonth_210 rfl rfl ?_
      obtain ⟨x8, e9, hf⟩ := zbind hf
      refine zr_lald C0 dX6_closeMonth_211 e9 ?_
      refine zr_lload_n C0 dX6_closeMonth_212 rfl 2 rfl ?_
      refine zr_aload_n C0 dX6_closeMonth_213 rfl 0 rfl ?_
      obtain ⟨x10, e11, hf⟩ := zbind hf
      refine zr_get C0 fl_X6_9_X6 dX6_closeMonth_214 (zgR e11) ?_
      refine zr_bipush C0 (v := 7) dX6_closeMonth_217 (by decide) ?_
      obtain ⟨x12, e13, hf⟩ := zbind hf
      refine zr_lald C0 dX6_closeMonth_219 e13 ?_
      obtain ⟨x16, h14, e15, hf⟩ := zbind2 hf
      refine zr_callS_r C0 cv_X6_187 (m_X6_rated C0.2.2.2.2.2.2.1 e15) (by decide) (by decide) rfl rfl (Nat.le_of_ble_eq_true rfl) dX6_closeMonth_220 rfl ?_
      refine zr_ladd C0 dX6_closeMonth_223 ?_
      obtain ⟨h17, e18, hf⟩ := zbind hf
      refine zr_last C0 dX6_closeMonth_224 e18 ?_
      refine zr_iconst C0 (v := 0) dX6_closeMonth_225 (by decide) ?_
      refine zr_istore (i := 4) (lv' := [(4, .int (0 : Int32)), (0, .ref p0), (1, .int p1), (2, .long p2)]) C0 dX6_closeMonth_226 (by decide) (by first | rfl | simp [zst1, zst2, zcat_rf]) ?_
      refine zr_sub [1, 2, 0] rfl ?_
      exact w_X6_closeMonth_l228 C0 _ _ _ _ _ hf
    · have hf := zif_f (zl_gen.mp c5) hf
      refine zr_aload_n C0 dX6_closeMonth_45 rfl 0 rfl ?_
      refine zr_iload C0 dX6_closeMonth_46 3 rfl ?_
      refine zr_bipush C0 (v := 100) dX6_closeMonth_48 (by decide) ?_
      obtain ⟨_, e19, hf⟩ := zbind hf
      obtain ⟨x22, h20, e21, hf⟩ := zbind2 hf
      refine zr_callV_r C0 cv_X6_191_X6 rfl (zcko e19) (m_X6_salesNow C0.2.2.2.2.2.2.1 e21) (by decide) (by decide) rfl rfl (Nat.le_of_ble_eq_true rfl) dX6_closeMonth_50 rfl ?_
      refine zr_lstore (i := 5) (lv' := [(5, .long x22), (0, .ref p0), (1, .int p1), (2, .long p2), (4, .int p4)]) C0 dX6_closeMonth_53 (by decide) (by first | rfl | simp [zst1, zst2, zcat_rf]) ?_
      refine zr_aload_n C0 dX6_closeMonth_55 rfl 1 rfl ?_
      obtain ⟨x23, e24, hf⟩ := zbind hf
      refine zr_get C0 fl_X6_9_X6 dX6_closeMonth_56 (zgR e24) ?_
      refine zr_sipush C0 (v := 1214) dX6_closeMonth_59 (by decide) ?_
      refine zr_bipush C0 (v := 8) dX6_closeMonth_62 (by decide) ?_
      refine zr_iload_n C0 dX6_closeMonth_64 rfl 2 rfl ?_
      refine zr_imul C0 dX6_closeMonth_65 ?_
      refine zr_iadd C0 dX6_closeMonth_66 ?_
      refine zr_iload C0 dX6_closeMonth_67 4 rfl ?_
      refine zr_iadd C0 dX6_closeMonth_69 ?_
      refine zr_lload C0 dX6_closeMonth_70 0 rfl ?_
      obtain ⟨h25, e26, hf⟩ := zbind hf
      refine zr_last C0 dX6_closeMonth_72 e26 ?_
      refine zr_aload_n C0 dX6_closeMonth_73 rfl 1 rfl ?_
      refine zr_iload C0 dX6_closeMonth_74 4 rfl ?_
      refine zr_lload C0 dX6_closeMonth_76 0 rfl ?_
      obtain ⟨_, e27, hf⟩ := zbind hf
      obtain ⟨x30, h28, e29, hf⟩ := zbind2 hf
      refine zr_callV_r C0 cv_X6_227_X6 rfl (zcko e27) (m_X6_calculate C0.2.2.2.2.2.2.1 e29) (by decide) (by decide) rfl rfl (Nat.le_of_ble_eq_true rfl) dX6_closeMonth_78 rfl ?_
      refine zr_iconst C0 (v := 0) dX6_closeMonth_81 (by decide) ?_
      refine zr_istore (i := 7) (lv' := [(7, .int (0 : Int32)), (5, .long x22), (0, .ref p0), (1, .int p1), (2, .long p2), (4, .int p4)]) C0 dX6_closeMonth_82 (by decide) (by first | rfl | simp [zst1, zst2, zcat_rf]) ?_
      refine zr_sub [2, 3, 4, 5, 0] rfl ?_
      exact w_X6_closeMonth_l84 C0 ih _ _ _ _ _ _ _ hf
def f_X6_closeMonth_b0 (E : zE) (p0 : Nat) (h : zH) : Option (Int32 × zH) :=
  (pF h p0 1 2 (.int (0 : Int32))).bind fun h1 =>
  (cko h1 p0 1).bind fun _ =>
  bnd2 (f_X6_isOver E p0 h1) fun x6 h4 =>
  (cko h4 p0 1).bind fun _ =>
  bnd2 (f_X6_throwsIf E p0 x6 (1 : Int32) h4) fun x10 h8 =>
  if x10 = 0 then (
    (gR h8 p0 1 0).bind fun x12 =>
    (dL h8 x12 (0 : Int32)).bind fun x14 =>
    f_X6_closeMonth_l32 E E.1 p0 (x14.toInt32) (0 : Int64) (0 : Int32) h8
  ) else (
    some ((0 : Int32), h8)
  )
theorem w_X6_closeMonth_b0 (C0 : zCx p l e R s m args below meth c D B0 8 "FranchiseLedgerModel" cX6_closeMonth E 5 152 (Option.some Jvm.ClassFile.FieldType.int) "closeMonth") {r : Int32} {h' : zH} {p0 : Nat} {h : zH} (hf : f_X6_closeMonth_b0 E p0 h = some (r, h')) : zW p l e R s m args below meth c D B0 8 (zEnd D B0 R below args s (zoI r) h') h 0 [(0, .ref p0)] [] := by
  unfold f_X6_closeMonth_b0 at hf
  refine zr_aload_n C0 dX6_closeMonth_0 rfl 0 rfl ?_
  refine zr_iconst C0 (v := 0) dX6_closeMonth_1 (by decide) ?_
  obtain ⟨h1, e2, hf⟩ := zbind hf
  refine zr_put C0 pl_X6_50_X6 dX6_closeMonth_2 (fun h => by cases h) rfl rfl e2 ?_
  refine zr_aload_n C0 dX6_closeMonth_5 rfl 0 rfl ?_
  refine zr_aload_n C0 dX6_closeMonth_6 rfl 0 rfl ?_
  obtain ⟨_, e3, hf⟩ := zbind hf
  obtain ⟨x6, h4, e5, hf⟩ := zbind2 hf
  refine zr_callV_r C0 cv_X6_201_X6 rfl (zcko e3) (m_X6_isOver C0.2.2.2.2.2.2.1 e5) (by decide) (by decide) rfl rfl (Nat.le_of_ble_eq_true rfl) dX6_closeMonth_7 rfl ?_
  refine zr_iconst C0 (v := 1) dX6_closeMonth_10 (by decide) ?_
  obtain ⟨_, e7, hf⟩ := zbind hf
  obtain ⟨x10, h8, e9, hf⟩ := zbind2 hf
  refine zr_callV_r C0 cv_X6_81_X6 rfl (zcko e7) (m_X6_throwsIf C0.2.2.2.2.2.2.1 e9) (by decide) (by decide) rfl rfl (Nat.le_of_ble_eq_true rfl) dX6_closeMonth_11 rfl ?_
  refine zr_if_eq C0 (tgt := 19) dX6_closeMonth_14 (by decide) (fun c11 => ?_) (fun c11 => ?_)
  · have hf := zif_t c11 hf
    refine zr_aload_n C0 dX6_closeMonth_19 rfl 0 rfl ?_
    obtain ⟨x12, e13, hf⟩ := zbind hf
    refine zr_get C0 fl_X6_9_X6 dX6_closeMonth_20 (zgR e13) ?_
    refine zr_iconst C0 (v := 0) dX6_closeMonth_23 (by decide) ?_
    obtain ⟨x14, e15, hf⟩ := zbind hf
    refine zr_lald C0 dX6_closeMonth_24 e15 ?_
    refine zr_l2i C0 dX6_closeMonth_25 ?_
    refine zr_istore_n (i := 1) (lv' := [(1, .int (x14.toInt32)), (0, .ref p0)]) C0 dX6_closeMonth_26 rfl (by decide) (by first | rfl | simp [zst1, zst2, zcat_rf]) ?_
    refine zr_lconst C0 (v := 0) dX6_closeMonth_27 (by decide) ?_
    refine zr_lstore_n (i := 2) (lv' := [(2, .long (0 : Int64)), (1, .int (x14.toInt32)), (0, .ref p0)]) C0 dX6_closeMonth_28 rfl (by decide) (by first | rfl | simp [zst1, zst2, zcat_rf]) ?_
    refine zr_iconst C0 (v := 0) dX6_closeMonth_29 (by decide) ?_
    refine zr_istore (i := 4) (lv' := [(4, .int (0 : Int32)), (2, .long (0 : Int64)), (1, .int (x14.toInt32)), (0, .ref p0)]) C0 dX6_closeMonth_30 (by decide) (by first | rfl | simp [zst1, zst2, zcat_rf]) ?_
    refine zr_sub [3, 2, 1, 0] rfl ?_
    exact w_X6_closeMonth_l32 C0 _ _ _ _ _ _ hf
  · have hf := zif_f c11 hf
    refine zr_iconst C0 (v := 0) dX6_closeMonth_17 (by decide) ?_
    refine zretW hf ?_
    exact zr_iret C0 (ty := .int) rfl rfl dX6_closeMonth_18 rfl
def f_X6_closeMonth (E : zE) (p0 : Nat) (h : zH) : Option (Int32 × zH) := f_X6_closeMonth_b0 E p0 h
theorem m_X6_closeMonth {l : Launch} (hst : l.stackTraces = false) {D : zD} {B0 : Nat} {E : zE} {p0 : Nat} {h h' : zH} {r : Int32} (hf : f_X6_closeMonth E p0 h = some (r, h')) : zMet l yX6_closeMonth (ws_ yX6_closeMonth cX6_closeMonth 8 (Option.some Jvm.ClassFile.FieldType.int)) 5 152 D B0 E [.ref p0] h (zoI r) h' := by
  unfold f_X6_closeMonth at hf
  refine zMet_of hst (by decide +kernel) rfl rfl (Nat.le_of_ble_eq_true rfl) (fun p e R s m below meth c C0 hno => ?_)
  show zW _ _ _ _ _ _ _ _ _ _ _ _ _ _ _ _ [(0, .ref p0)] []
  exact w_X6_closeMonth_b0 C0 hf
def f_X6_invoice_b76 (E : zE) (s0 : Int64) (h : zH) : Option (Int64 × zH) :=
  some (s0, h)
theorem w_X6_invoice_b76 (C0 : zCx p l e R s m args below meth c D B0 4 "FranchiseLedgerModel" cX6_invoice E 3 106 (Option.some Jvm.ClassFile.FieldType.long) "invoice") {r : Int64} {h' : zH} {s0 : Int64} {h : zH} (hf : f_X6_invoice_b76 E s0 h = some (r, h')) : zW p l e R s m args below meth c D B0 4 (zEnd D B0 R below args s (zoL r) h') h 76 [] [.long s0] := by
  unfold f_X6_invoice_b76 at hf
  refine zretW hf ?_
  exact zr_lret C0 rfl dX6_invoice_76 rfl
def f_X6_invoice_b59 (E : zE) (h : zH) : Option (Int64 × zH) :=
  f_X6_invoice_b76 E (0 : Int64) h
theorem w_X6_invoice_b59 (C0 : zCx p l e R s m args below meth c D B0 4 "FranchiseLedgerModel" cX6_invoice E 3 106 (Option.some Jvm.ClassFile.FieldType.long) "invoice") {r : Int64} {h' : zH} {h : zH} (hf : f_X6_invoice_b59 E  h = some (r, h')) : zW p l e R s m args below meth c D B0 4 (zEnd D B0 R below args s (zoL r) h') h 59 [] [] := by
  unfold f_X6_invoice_b59 at hf
  refine zr_lconst C0 (v := 0) dX6_invoice_59 (by decide) ?_
  refine zr_goto C0 (tgt := 76) dX6_invoice_60 (by decide) ?_
  exact w_X6_invoice_b76 C0 hf
def f_X6_invoice_b52 (E : zE) (p0 : Nat) (p1 : Int32) (p2 : Int32) (p3 : Int32) (s0 : Nat) (s1 : Int32) (h : zH) : Option (Int64 × zH) :=
  (cko h s0 1).bind fun _ =>
  bnd2 (f_X6_throwsIf E s0 s1 (2 : Int32) h) fun x4 h2 =>
  if x4 = 0 then (
    (gR h2 p0 1 0).bind fun x6 =>
    (cko h2 p0 1).bind fun _ =>
    bnd2 (f_X6_invoiceRow E p0 p1 p2 h2) fun x11 h9 =>
    (dL h9 x6 (x11 + p3)).bind fun x12 =>
    f_X6_invoice_b76 E x12 h9
  ) else (
    f_X6_invoice_b59 E  h2
  )
theorem w_X6_invoice_b52 (C0 : zCx p l e R s m args below meth c D B0 4 "FranchiseLedgerModel" cX6_invoice E 3 106 (Option.some Jvm.ClassFile.FieldType.long) "invoice") {r : Int64} {h' : zH} {p0 : Nat} {p1 : Int32} {p2 : Int32} {p3 : Int32} {s0 : Nat} {s1 : Int32} {h : zH} (hf : f_X6_invoice_b52 E p0 p1 p2 p3 s0 s1 h = some (r, h')) : zW p l e R s m args below meth c D B0 4 (zEnd D B0 R below args s (zoL r) h') h 52 [(0, .ref p0), (1, .int p1), (2, .int p2), (3, .int p3)] [.int s1, .ref s0] := by
  unfold f_X6_invoice_b52 at hf
  refine zr_iconst C0 (v := 2) dX6_invoice_52 (by decide) ?_
  obtain ⟨_, e1, hf⟩ := zbind hf
  obtain ⟨x4, h2, e3, hf⟩ := zbind2 hf
  refine zr_callV_r C0 cv_X6_81_X6 rfl (zcko e1) (m_X6_throwsIf C0.2.2.2.2.2.2.1 e3) (by decide) (by decide) rfl rfl (Nat.le_of_ble_eq_true rfl) dX6_invoice_53 rfl ?_
  refine zr_if_eq C0 (tgt := 63) dX6_invoice_56 (by decide) (fun c5 => ?_) (fun c5 => ?_)
  · have hf := zif_t c5 hf
    refine zr_aload_n C0 dX6_invoice_63 rfl 0 rfl ?_
    obtain ⟨x6, e7, hf⟩ := zbind hf
    refine zr_get C0 fl_X6_9_X6 dX6_invoice_64 (zgR e7) ?_
    refine zr_aload_n C0 dX6_invoice_67 rfl 0 rfl ?_
    refine zr_iload_n C0 dX6_invoice_68 rfl 1 rfl ?_
    refine zr_iload_n C0 dX6_invoice_69 rfl 2 rfl ?_
    obtain ⟨_, e8, hf⟩ := zbind hf
    obtain ⟨x11, h9, e10, hf⟩ := zbind2 hf
    refine zr_callV_r C0 cv_X6_231_X6 rfl (zcko e8) (m_X6_invoiceRow C0.2.2.2.2.2.2.1 e10) (by decide) (by decide) rfl rfl (Nat.le_of_ble_eq_true rfl) dX6_invoice_70 rfl ?_
    refine zr_iload_n C0 dX6_invoice_73 rfl 3 rfl ?_
    refine zr_iadd C0 dX6_invoice_74 ?_
    obtain ⟨x12, e13, hf⟩ := zbind hf
    refine zr_lald C0 dX6_invoice_75 e13 ?_
    refine zr_sub [] rfl ?_
    exact w_X6_invoice_b76 C0 hf
  · have hf := zif_f c5 hf
    refine zr_sub [] rfl ?_
    exact w_X6_invoice_b59 C0 hf
def f_X6_invoice_b47 (E : zE) (p0 : Nat) (p1 : Int32) (p2 : Int32) (p3 : Int32) (s0 : Nat) (h : zH) : Option (Int64 × zH) :=
  f_X6_invoice_b52 E p0 p1 p2 p3 s0 (1 : Int32) h
theorem w_X6_invoice_b47 (C0 : zCx p l e R s m args below meth c D B0 4 "FranchiseLedgerModel" cX6_invoice E 3 106 (Option.some Jvm.ClassFile.FieldType.long) "invoice") {r : Int64} {h' : zH} {p0 : Nat} {p1 : Int32} {p2 : Int32} {p3 : Int32} {s0 : Nat} {h : zH} (hf : f_X6_invoice_b47 E p0 p1 p2 p3 s0 h = some (r, h')) : zW p l e R s m args below meth c D B0 4 (zEnd D B0 R below args s (zoL r) h') h 47 [(0, .ref p0), (1, .int p1), (2, .int p2), (3, .int p3)] [.ref s0] := by
  unfold f_X6_invoice_b47 at hf
  refine zr_iconst C0 (v := 1) dX6_invoice_47 (by decide) ?_
  refine zr_goto C0 (tgt := 52) dX6_invoice_48 (by decide) ?_
  exact w_X6_invoice_b52 C0 hf
def f_X6_invoice_b19 (E : zE) (p0 : Nat) (p1 : Int32) (p2 : Int32) (p3 : Int32) (s0 : Nat) (s1 : Int32) (h : zH) : Option (Int64 × zH) :=
  (cko h s0 1).bind fun _ =>
  bnd2 (f_X6_throwsIf E s0 s1 (1 : Int32) h) fun x4 h2 =>
  if x4 = 0 then (
    (cko h2 p0 1).bind fun _ =>
    bnd2 (f_X6_isClosed E p0 p2 h2) fun x9 h7 =>
    if x9 = 0 then (
      f_X6_invoice_b47 E p0 p1 p2 p3 p0 h7
    ) else (
      bnd2 (f_X6_inRange E (p3.toInt64) (0 : Int64) (6 : Int64) h7) fun x13 h11 =>
      if x13 = 0 then (
        f_X6_invoice_b47 E p0 p1 p2 p3 p0 h11
      ) else (
        f_X6_invoice_b52 E p0 p1 p2 p3 p0 (0 : Int32) h11
      )
    )
  ) else (
    f_X6_invoice_b59 E  h2
  )
theorem w_X6_invoice_b19 (C0 : zCx p l e R s m args below meth c D B0 4 "FranchiseLedgerModel" cX6_invoice E 3 106 (Option.some Jvm.ClassFile.FieldType.long) "invoice") {r : Int64} {h' : zH} {p0 : Nat} {p1 : Int32} {p2 : Int32} {p3 : Int32} {s0 : Nat} {s1 : Int32} {h : zH} (hf : f_X6_invoice_b19 E p0 p1 p2 p3 s0 s1 h = some (r, h')) : zW p l e R s m args below meth c D B0 4 (zEnd D B0 R below args s (zoL r) h') h 19 [(0, .ref p0), (1, .int p1), (2, .int p2), (3, .int p3)] [.int s1, .ref s0] := by
  unfold f_X6_invoice_b19 at hf
  refine zr_iconst C0 (v := 1) dX6_invoice_19 (by decide) ?_
  obtain ⟨_, e1, hf⟩ := zbind hf
  obtain ⟨x4, h2, e3, hf⟩ := zbind2 hf
  refine zr_callV_r C0 cv_X6_81_X6 rfl (zcko e1) (m_X6_throwsIf C0.2.2.2.2.2.2.1 e3) (by decide) (by decide) rfl rfl (Nat.le_of_ble_eq_true rfl) dX6_invoice_20 rfl ?_
  refine zr_if_ne C0 (tgt := 59) dX6_invoice_23 (by decide) (fun c5 => ?_) (fun c5 => ?_)
  · have hf := zif_f c5 hf
    refine zr_sub [] rfl ?_
    exact w_X6_invoice_b59 C0 hf
  · have hf := zif_t c5 hf
    refine zr_aload_n C0 dX6_invoice_26 rfl 0 rfl ?_
    refine zr_aload_n C0 dX6_invoice_27 rfl 0 rfl ?_
    refine zr_iload_n C0 dX6_invoice_28 rfl 2 rfl ?_
    obtain ⟨_, e6, hf⟩ := zbind hf
    obtain ⟨x9, h7, e8, hf⟩ := zbind2 hf
    refine zr_callV_r C0 cv_X6_207_X6 rfl (zcko e6) (m_X6_isClosed C0.2.2.2.2.2.2.1 e8) (by decide) (by decide) rfl rfl (Nat.le_of_ble_eq_true rfl) dX6_invoice_29 rfl ?_
    refine zr_if_eq C0 (tgt := 47) dX6_invoice_32 (by decide) (fun c10 => ?_) (fun c10 => ?_)
    · have hf := zif_t c10 hf
      exact w_X6_invoice_b47 C0 hf
    · have hf := zif_f c10 hf
      refine zr_iload_n C0 dX6_invoice_35 rfl 3 rfl ?_
      refine zr_i2l C0 dX6_invoice_36 ?_
      refine zr_lconst C0 (v := 0) dX6_invoice_37 (by decide) ?_
      refine zr_ldc2 C0 (v := 6) q2917 dX6_invoice_38 ?_
      obtain ⟨x13, h11, e12, hf⟩ := zbind2 hf
      refine zr_callS_r C0 cv_X6_53 (m_X6_inRange C0.2.2.2.2.2.2.1 e12) (by decide) (by decide) rfl rfl (Nat.le_of_ble_eq_true rfl) dX6_invoice_41 rfl ?_
      refine zr_if_ne C0 (tgt := 51) dX6_invoice_44 (by decide) (fun c14 => ?_) (fun c14 => ?_)
      · have hf := zif_f c14 hf
        refine zr_iconst C0 (v := 0) dX6_invoice_51 (by decide) ?_
        exact w_X6_invoice_b52 C0 hf
      · have hf := zif_t c14 hf
        exact w_X6_invoice_b47 C0 hf
def f_X6_invoice_b0 (E : zE) (p0 : Nat) (p1 : Int32) (p2 : Int32) (p3 : Int32) (h : zH) : Option (Int64 × zH) :=
  (pF h p0 1 2 (.int (0 : Int32))).bind fun h1 =>
  (cko h1 p0 1).bind fun _ =>
  bnd2 (f_X6_isFranchisee E p0 p1 h1) fun x6 h4 =>
  if x6 = 0 then (
    f_X6_invoice_b19 E p0 p1 p2 p3 p0 (1 : Int32) h4
  ) else (
    f_X6_invoice_b19 E p0 p1 p2 p3 p0 (0 : Int32) h4
  )
theorem w_X6_invoice_b0 (C0 : zCx p l e R s m args below meth c D B0 4 "FranchiseLedgerModel" cX6_invoice E 3 106 (Option.some Jvm.ClassFile.FieldType.long) "invoice") {r : Int64} {h' : zH} {p0 : Nat} {p1 : Int32} {p2 : Int32} {p3 : Int32} {h : zH} (hf : f_X6_invoice_b0 E p0 p1 p2 p3 h = some (r, h')) : zW p l e R s m args below meth c D B0 4 (zEnd D B0 R below args s (zoL r) h') h 0 [(0, .ref p0), (1, .int p1), (2, .int p2), (3, .int p3)] [] := by
  unfold f_X6_invoice_b0 at hf
  refine zr_aload_n C0 dX6_invoice_0 rfl 0 rfl ?_
  refine zr_iconst C0 (v := 0) dX6_invoice_1 (by decide) ?_
  obtain ⟨h1, e2, hf⟩ := zbind hf
  refine zr_put C0 pl_X6_50_X6 dX6_invoice_2 (fun h => by cases h) rfl rfl e2 ?_
  refine zr_aload_n C0 dX6_invoice_5 rfl 0 rfl ?_
  refine zr_aload_n C0 dX6_invoice_6 rfl 0 rfl ?_
  refine zr_iload_n C0 dX6_invoice_7 rfl 1 rfl ?_
  obtain ⟨_, e3, hf⟩ := zbind hf
  obtain ⟨x6, h4, e5, hf⟩ := zbind2 hf
  refine zr_callV_r C0 cv_X6_85_X6 rfl (zcko e3) (m_X6_isFranchisee C0.2.2.2.2.2.2.1 e5) (by decide) (by decide) rfl rfl (Nat.le_of_ble_eq_true rfl) dX6_invoice_8 rfl ?_
  refine zr_if_ne C0 (tgt := 18) dX6_invoice_11 (by decide) (fun c7 => ?_) (fun c7 => ?_)
  · have hf := zif_f c7 hf
    refine zr_iconst C0 (v := 0) dX6_invoice_18 (by decide) ?_
    exact w_X6_invoice_b19 C0 hf
  · have hf := zif_t c7 hf
    refine zr_iconst C0 (v := 1) dX6_invoice_14 (by decide) ?_
    refine zr_goto C0 (tgt := 19) dX6_invoice_15 (by decide) ?_
    exact w_X6_invoice_b19 C0 hf
def f_X6_invoice (E : zE) (p0 : Nat) (p1 : Int32) (p2 : Int32) (p3 : Int32) (h : zH) : Option (Int64 × zH) := f_X6_invoice_b0 E p0 p1 p2 p3 h
theorem m_X6_invoice {l : Launch} (hst : l.stackTraces = false) {D : zD} {B0 : Nat} {E : zE} {p0 : Nat} {p1 : Int32} {p2 : Int32} {p3 : Int32} {h h' : zH} {r : Int64} (hf : f_X6_invoice E p0 p1 p2 p3 h = some (r, h')) : zMet l yX6_invoice (ws_ yX6_invoice cX6_invoice 4 (Option.some Jvm.ClassFile.FieldType.long)) 3 106 D B0 E [.ref p0, .int p1, .int p2, .int p3] h (zoL r) h' := by
  unfold f_X6_invoice at hf
  refine zMet_of hst (by decide +kernel) rfl rfl (Nat.le_of_ble_eq_true rfl) (fun p e R s m below meth c C0 hno => ?_)
  show zW _ _ _ _ _ _ _ _ _ _ _ _ _ _ _ _ [(0, .ref p0), (1, .int p1), (2, .int p2), (3, .int p3)] []
  exact w_X6_invoice_b0 C0 hf
def f_X6_predictDue_b51 (E : zE) (h : zH) : Option (Int64 × zH) :=
  some ((0 : Int64), h)
theorem w_X6_predictDue_b51 (C0 : zCx p l e R s m args below meth c D B0 3 "FranchiseLedgerModel" cX6_predictDue E 5 152 (Option.some Jvm.ClassFile.FieldType.long) "predictDue") {r : Int64} {h' : zH} {h : zH} (hf : f_X6_predictDue_b51 E  h = some (r, h')) : zW p l e R s m args below meth c D B0 3 (zEnd D B0 R below args s (zoL r) h') h 51 [] [] := by
  unfold f_X6_predictDue_b51 at hf
  refine zr_lconst C0 (v := 0) dX6_predictDue_51 (by decide) ?_
  refine zretW hf ?_
  exact zr_lret C0 rfl dX6_predictDue_52 rfl
def f_X6_predictDue_b44 (E : zE) (p0 : Nat) (p1 : Int32) (p2 : Int32) (s0 : Nat) (s1 : Int32) (h : zH) : Option (Int64 × zH) :=
  (cko h s0 1).bind fun _ =>
  bnd2 (f_X6_throwsIf E s0 s1 (2 : Int32) h) fun x4 h2 =>
  if x4 = 0 then (
    (cko h2 p0 1).bind fun _ =>
    bnd2 (f_X6_salesNow E p0 p1 p2 h2) fun x9 h7 =>
    (cko h7 p0 1).bind fun _ =>
    bnd2 (f_X6_calculate E p0 p1 x9 h7) fun x13 h11 =>
    (gR h11 p0 1 5).bind fun x14 =>
    (dL h11 x14 (5 : Int32)).bind fun x16 =>
    some (x16, h11)
  ) else (
    f_X6_predictDue_b51 E  h2
  )
theorem w_X6_predictDue_b44 (C0 : zCx p l e R s m args below meth c D B0 3 "FranchiseLedgerModel" cX6_predictDue E 5 152 (Option.some Jvm.ClassFile.FieldType.long) "predictDue") {r : Int64} {h' : zH} {p0 : Nat} {p1 : Int32} {p2 : Int32} {s0 : Nat} {s1 : Int32} {h : zH} (hf : f_X6_predictDue_b44 E p0 p1 p2 s0 s1 h = some (r, h')) : zW p l e R s m args below meth c D B0 3 (zEnd D B0 R below args s (zoL r) h') h 44 [(0, .ref p0), (1, .int p1), (2, .int p2)] [.int s1, .ref s0] := by
  unfold f_X6_predictDue_b44 at hf
  refine zr_iconst C0 (v := 2) dX6_predictDue_44 (by decide) ?_
  obtain ⟨_, e1, hf⟩ := zbind hf
  obtain ⟨x4, h2, e3, hf⟩ := zbind2 hf
  refine zr_callV_r C0 cv_X6_81_X6 rfl (zcko e1) (m_X6_throwsIf C0.2.2.2.2.2.2.1 e3) (by decide) (by decide) rfl rfl (Nat.le_of_ble_eq_true rfl) dX6_predictDue_45 rfl ?_
  refine zr_if_eq C0 (tgt := 53) dX6_predictDue_48 (by decide) (fun c5 => ?_) (fun c5 => ?_)
  · have hf := zif_t c5 hf
    refine zr_aload_n C0 dX6_predictDue_53 rfl 0 rfl ?_
    refine zr_iload_n C0 dX6_predictDue_54 rfl 1 rfl ?_
    refine zr_aload_n C0 dX6_predictDue_55 rfl 0 rfl ?_
    refine zr_iload_n C0 dX6_predictDue_56 rfl 1 rfl ?_
    refine zr_iload_n C0 dX6_predictDue_57 rfl 2 rfl ?_
    obtain ⟨_, e6, hf⟩ := zbind hf
    obtain ⟨x9, h7, e8, hf⟩ := zbind2 hf
    refine zr_callV_r C0 cv_X6_191_X6 rfl (zcko e6) (m_X6_salesNow C0.2.2.2.2.2.2.1 e8) (by decide) (by decide) rfl rfl (Nat.le_of_ble_eq_true rfl) dX6_predictDue_58 rfl ?_
    obtain ⟨_, e10, hf⟩ := zbind hf
    obtain ⟨x13, h11, e12, hf⟩ := zbind2 hf
    refine zr_callV_r C0 cv_X6_227_X6 rfl (zcko e10) (m_X6_calculate C0.2.2.2.2.2.2.1 e12) (by decide) (by decide) rfl rfl (Nat.le_of_ble_eq_true rfl) dX6_predictDue_61 rfl ?_
    refine zr_aload_n C0 dX6_predictDue_64 rfl 0 rfl ?_
    obtain ⟨x14, e15, hf⟩ := zbind hf
    refine zr_get C0 fl_X6_23_X6 dX6_predictDue_65 (zgR e15) ?_
    refine zr_iconst C0 (v := 5) dX6_predictDue_68 (by decide) ?_
    obtain ⟨x16, e17, hf⟩ := zbind hf
    refine zr_lald C0 dX6_predictDue_69 e17 ?_
    refine zretW hf ?_
    exact zr_lret C0 rfl dX6_predictDue_70 rfl
  · have hf := zif_f c5 hf
    refine zr_sub [] rfl ?_
    exact w_X6_predictDue_b51 C0 hf
def f_X6_predictDue_b19 (E : zE) (p0 : Nat) (p1 : Int32) (p2 : Int32) (s0 : Nat) (s1 : Int32) (h : zH) : Option (Int64 × zH) :=
  (cko h s0 1).bind fun _ =>
  bnd2 (f_X6_throwsIf E s0 s1 (1 : Int32) h) fun x4 h2 =>
  if x4 = 0 then (
    bnd2 (f_X6_inRange E (p2.toInt64) (0 : Int64) (300 : Int64) h2) fun x8 h6 =>
    if x8 = 0 then (
      f_X6_predictDue_b44 E p0 p1 p2 p0 (1 : Int32) h6
    ) else (
      f_X6_predictDue_b44 E p0 p1 p2 p0 (0 : Int32) h6
    )
  ) else (
    f_X6_predictDue_b51 E  h2
  )
theorem w_X6_predictDue_b19 (C0 : zCx p l e R s m args below meth c D B0 3 "FranchiseLedgerModel" cX6_predictDue E 5 152 (Option.some Jvm.ClassFile.FieldType.long) "predictDue") {r : Int64} {h' : zH} {p0 : Nat} {p1 : Int32} {p2 : Int32} {s0 : Nat} {s1 : Int32} {h : zH} (hf : f_X6_predictDue_b19 E p0 p1 p2 s0 s1 h = some (r, h')) : zW p l e R s m args below meth c D B0 3 (zEnd D B0 R below args s (zoL r) h') h 19 [(0, .ref p0), (1, .int p1), (2, .int p2)] [.int s1, .ref s0] := by
  unfold f_X6_predictDue_b19 at hf
  refine zr_iconst C0 (v := 1) dX6_predictDue_19 (by decide) ?_
  obtain ⟨_, e1, hf⟩ := zbind hf
  obtain ⟨x4, h2, e3, hf⟩ := zbind2 hf
  refine zr_callV_r C0 cv_X6_81_X6 rfl (zcko e1) (m_X6_throwsIf C0.2.2.2.2.2.2.1 e3) (by decide) (by decide) rfl rfl (Nat.le_of_ble_eq_true rfl) dX6_predictDue_20 rfl ?_
  refine zr_if_ne C0 (tgt := 51) dX6_predictDue_23 (by decide) (fun c5 => ?_) (fun c5 => ?_)
  · have hf := zif_f c5 hf
    refine zr_sub [] rfl ?_
    exact w_X6_predictDue_b51 C0 hf
  · have hf := zif_t c5 hf
    refine zr_aload_n C0 dX6_predictDue_26 rfl 0 rfl ?_
    refine zr_iload_n C0 dX6_predictDue_27 rfl 2 rfl ?_
    refine zr_i2l C0 dX6_predictDue_28 ?_
    refine zr_lconst C0 (v := 0) dX6_predictDue_29 (by decide) ?_
    refine zr_ldc2 C0 (v := 300) q2922 dX6_predictDue_30 ?_
    obtain ⟨x8, h6, e7, hf⟩ := zbind2 hf
    refine zr_callS_r C0 cv_X6_53 (m_X6_inRange C0.2.2.2.2.2.2.1 e7) (by decide) (by decide) rfl rfl (Nat.le_of_ble_eq_true rfl) dX6_predictDue_33 rfl ?_
    refine zr_if_ne C0 (tgt := 43) dX6_predictDue_36 (by decide) (fun c9 => ?_) (fun c9 => ?_)
    · have hf := zif_f c9 hf
      refine zr_iconst C0 (v := 0) dX6_predictDue_43 (by decide) ?_
      exact w_X6_predictDue_b44 C0 hf
    · have hf := zif_t c9 hf
      refine zr_iconst C0 (v := 1) dX6_predictDue_39 (by decide) ?_
      refine zr_goto C0 (tgt := 44) dX6_predictDue_40 (by decide) ?_
      exact w_X6_predictDue_b44 C0 hf
def f_X6_predictDue_b0 (E : zE) (p0 : Nat) (p1 : Int32) (p2 : Int32) (h : zH) : Option (Int64 × zH) :=
  (pF h p0 1 2 (.int (0 : Int32))).bind fun h1 =>
  (cko h1 p0 1).bind fun _ =>
  bnd2 (f_X6_isFranchisee E p0 p1 h1) fun x6 h4 =>
  if x6 = 0 then (
    f_X6_predictDue_b19 E p0 p1 p2 p0 (1 : Int32) h4
  ) else (
    f_X6_predictDue_b19 E p0 p1 p2 p0 (0 : Int32) h4
  )
theorem w_X6_predictDue_b0 (C0 : zCx p l e R s m args below meth c D B0 3 "FranchiseLedgerModel" cX6_predictDue E 5 152 (Option.some Jvm.ClassFile.FieldType.long) "predictDue") {r : Int64} {h' : zH} {p0 : Nat} {p1 : Int32} {p2 : Int32} {h : zH} (hf : f_X6_predictDue_b0 E p0 p1 p2 h = some (r, h')) : zW p l e R s m args below meth c D B0 3 (zEnd D B0 R below args s (zoL r) h') h 0 [(0, .ref p0), (1, .int p1), (2, .int p2)] [] := by
  unfold f_X6_predictDue_b0 at hf
  refine zr_aload_n C0 dX6_predictDue_0 rfl 0 rfl ?_
  refine zr_iconst C0 (v := 0) dX6_predictDue_1 (by decide) ?_
  obtain ⟨h1, e2, hf⟩ := zbind hf
  refine zr_put C0 pl_X6_50_X6 dX6_predictDue_2 (fun h => by cases h) rfl rfl e2 ?_
  refine zr_aload_n C0 dX6_predictDue_5 rfl 0 rfl ?_
  refine zr_aload_n C0 dX6_predictDue_6 rfl 0 rfl ?_
  refine zr_iload_n C0 dX6_predictDue_7 rfl 1 rfl ?_
  obtain ⟨_, e3, hf⟩ := zbind hf
  obtain ⟨x6, h4, e5, hf⟩ := zbind2 hf
  refine zr_callV_r C0 cv_X6_85_X6 rfl (zcko e3) (m_X6_isFranchisee C0.2.2.2.2.2.2.1 e5) (by decide) (by decide) rfl rfl (Nat.le_of_ble_eq_true rfl) dX6_predictDue_8 rfl ?_
  refine zr_if_ne C0 (tgt := 18) dX6_predictDue_11 (by decide) (fun c7 => ?_) (fun c7 => ?_)
  · have hf := zif_f c7 hf
    refine zr_iconst C0 (v := 0) dX6_predictDue_18 (by decide) ?_
    exact w_X6_predictDue_b19 C0 hf
  · have hf := zif_t c7 hf
    refine zr_iconst C0 (v := 1) dX6_predictDue_14 (by decide) ?_
    refine zr_goto C0 (tgt := 19) dX6_predictDue_15 (by decide) ?_
    exact w_X6_predictDue_b19 C0 hf
def f_X6_predictDue (E : zE) (p0 : Nat) (p1 : Int32) (p2 : Int32) (h : zH) : Option (Int64 × zH) := f_X6_predictDue_b0 E p0 p1 p2 h
theorem m_X6_predictDue {l : Launch} (hst : l.stackTraces = false) {D : zD} {B0 : Nat} {E : zE} {p0 : Nat} {p1 : Int32} {p2 : Int32} {h h' : zH} {r : Int64} (hf : f_X6_predictDue E p0 p1 p2 h = some (r, h')) : zMet l yX6_predictDue (ws_ yX6_predictDue cX6_predictDue 3 (Option.some Jvm.ClassFile.FieldType.long)) 5 152 D B0 E [.ref p0, .int p1, .int p2] h (zoL r) h' := by
  unfold f_X6_predictDue at hf
  refine zMet_of hst (by decide +kernel) rfl rfl (Nat.le_of_ble_eq_true rfl) (fun p e R s m below meth c C0 hno => ?_)
  show zW _ _ _ _ _ _ _ _ _ _ _ _ _ _ _ _ [(0, .ref p0), (1, .int p1), (2, .int p2)] []
  exact w_X6_predictDue_b0 C0 hf
def f_X6_balance_b36 (E : zE) (s0 : Int64) (h : zH) : Option (Int64 × zH) :=
  some (s0, h)
theorem w_X6_balance_b36 (C0 : zCx p l e R s m args below meth c D B0 2 "FranchiseLedgerModel" cX6_balance E 3 106 (Option.some Jvm.ClassFile.FieldType.long) "balance") {r : Int64} {h' : zH} {s0 : Int64} {h : zH} (hf : f_X6_balance_b36 E s0 h = some (r, h')) : zW p l e R s m args below meth c D B0 2 (zEnd D B0 R below args s (zoL r) h') h 36 [] [.long s0] := by
  unfold f_X6_balance_b36 at hf
  refine zretW hf ?_
  exact zr_lret C0 rfl dX6_balance_36 rfl
def f_X6_balance_b19 (E : zE) (p0 : Nat) (p1 : Int32) (s0 : Nat) (s1 : Int32) (h : zH) : Option (Int64 × zH) :=
  (cko h s0 1).bind fun _ =>
  bnd2 (f_X6_throwsIf E s0 s1 (1 : Int32) h) fun x4 h2 =>
  if x4 = 0 then (
    (cko h2 p0 1).bind fun _ =>
    bnd2 (f_X6_of E p0 p1 (4 : Int32) h2) fun x9 h7 =>
    f_X6_balance_b36 E x9 h7
  ) else (
    f_X6_balance_b36 E (0 : Int64) h2
  )
theorem w_X6_balance_b19 (C0 : zCx p l e R s m args below meth c D B0 2 "FranchiseLedgerModel" cX6_balance E 3 106 (Option.some Jvm.ClassFile.FieldType.long) "balance") {r : Int64} {h' : zH} {p0 : Nat} {p1 : Int32} {s0 : Nat} {s1 : Int32} {h : zH} (hf : f_X6_balance_b19 E p0 p1 s0 s1 h = some (r, h')) : zW p l e R s m args below meth c D B0 2 (zEnd D B0 R below args s (zoL r) h') h 19 [(0, .ref p0), (1, .int p1)] [.int s1, .ref s0] := by
  unfold f_X6_balance_b19 at hf
  refine zr_iconst C0 (v := 1) dX6_balance_19 (by decide) ?_
  obtain ⟨_, e1, hf⟩ := zbind hf
  obtain ⟨x4, h2, e3, hf⟩ := zbind2 hf
  refine zr_callV_r C0 cv_X6_81_X6 rfl (zcko e1) (m_X6_throwsIf C0.2.2.2.2.2.2.1 e3) (by decide) (by decide) rfl rfl (Nat.le_of_ble_eq_true rfl) dX6_balance_20 rfl ?_
  refine zr_if_eq C0 (tgt := 30) dX6_balance_23 (by decide) (fun c5 => ?_) (fun c5 => ?_)
  · have hf := zif_t c5 hf
    refine zr_aload_n C0 dX6_balance_30 rfl 0 rfl ?_
    refine zr_iload_n C0 dX6_balance_31 rfl 1 rfl ?_
    refine zr_iconst C0 (v := 4) dX6_balance_32 (by decide) ?_
    obtain ⟨_, e6, hf⟩ := zbind hf
    obtain ⟨x9, h7, e8, hf⟩ := zbind2 hf
    refine zr_callV_r C0 cv_X6_63_X6 rfl (zcko e6) (m_X6_of C0.2.2.2.2.2.2.1 e8) (by decide) (by decide) rfl rfl (Nat.le_of_ble_eq_true rfl) dX6_balance_33 rfl ?_
    refine zr_sub [] rfl ?_
    exact w_X6_balance_b36 C0 hf
  · have hf := zif_f c5 hf
    refine zr_lconst C0 (v := 0) dX6_balance_26 (by decide) ?_
    refine zr_goto C0 (tgt := 36) dX6_balance_27 (by decide) ?_
    refine zr_sub [] rfl ?_
    exact w_X6_balance_b36 C0 hf
def f_X6_balance_b0 (E : zE) (p0 : Nat) (p1 : Int32) (h : zH) : Option (Int64 × zH) :=
  (pF h p0 1 2 (.int (0 : Int32))).bind fun h1 =>
  (cko h1 p0 1).bind fun _ =>
  bnd2 (f_X6_isFranchisee E p0 p1 h1) fun x6 h4 =>
  if x6 = 0 then (
    f_X6_balance_b19 E p0 p1 p0 (1 : Int32) h4
  ) else (
    f_X6_balance_b19 E p0 p1 p0 (0 : Int32) h4
  )
theorem w_X6_balance_b0 (C0 : zCx p l e R s m args below meth c D B0 2 "FranchiseLedgerModel" cX6_balance E 3 106 (Option.some Jvm.ClassFile.FieldType.long) "balance") {r : Int64} {h' : zH} {p0 : Nat} {p1 : Int32} {h : zH} (hf : f_X6_balance_b0 E p0 p1 h = some (r, h')) : zW p l e R s m args below meth c D B0 2 (zEnd D B0 R below args s (zoL r) h') h 0 [(0, .ref p0), (1, .int p1)] [] := by
  unfold f_X6_balance_b0 at hf
  refine zr_aload_n C0 dX6_balance_0 rfl 0 rfl ?_
  refine zr_iconst C0 (v := 0) dX6_balance_1 (by decide) ?_
  obtain ⟨h1, e2, hf⟩ := zbind hf
  refine zr_put C0 pl_X6_50_X6 dX6_balance_2 (fun h => by cases h) rfl rfl e2 ?_
  refine zr_aload_n C0 dX6_balance_5 rfl 0 rfl ?_
  refine zr_aload_n C0 dX6_balance_6 rfl 0 rfl ?_
  refine zr_iload_n C0 dX6_balance_7 rfl 1 rfl ?_
  obtain ⟨_, e3, hf⟩ := zbind hf
  obtain ⟨x6, h4, e5, hf⟩ := zbind2 hf
  refine zr_callV_r C0 cv_X6_85_X6 rfl (zcko e3) (m_X6_isFranchisee C0.2.2.2.2.2.2.1 e5) (by decide) (by decide) rfl rfl (Nat.le_of_ble_eq_true rfl) dX6_balance_8 rfl ?_
  refine zr_if_ne C0 (tgt := 18) dX6_balance_11 (by decide) (fun c7 => ?_) (fun c7 => ?_)
  · have hf := zif_f c7 hf
    refine zr_iconst C0 (v := 0) dX6_balance_18 (by decide) ?_
    exact w_X6_balance_b19 C0 hf
  · have hf := zif_t c7 hf
    refine zr_iconst C0 (v := 1) dX6_balance_14 (by decide) ?_
    refine zr_goto C0 (tgt := 19) dX6_balance_15 (by decide) ?_
    exact w_X6_balance_b19 C0 hf
def f_X6_balance (E : zE) (p0 : Nat) (p1 : Int32) (h : zH) : Option (Int64 × zH) := f_X6_balance_b0 E p0 p1 h
theorem m_X6_balance {l : Launch} (hst : l.stackTraces = false) {D : zD} {B0 : Nat} {E : zE} {p0 : Nat} {p1 : Int32} {h h' : zH} {r : Int64} (hf : f_X6_balance E p0 p1 h = some (r, h')) : zMet l yX6_balance (ws_ yX6_balance cX6_balance 2 (Option.some Jvm.ClassFile.FieldType.long)) 3 106 D B0 E [.ref p0, .int p1] h (zoL r) h' := by
  unfold f_X6_balance at hf
  refine zMet_of hst (by decide +kernel) rfl rfl (Nat.le_of_ble_eq_true rfl) (fun p e R s m below meth c C0 hno => ?_)
  show zW _ _ _ _ _ _ _ _ _ _ _ _ _ _ _ _ [(0, .ref p0), (1, .int p1)] []
  exact w_X6_balance_b0 C0 hf
def f_X6_totalOwed_b43 (E : zE) (k9 : Nat → Int64 → Int32 → zH → Option (Int64 × zH)) (p0 : Nat) (p3 : Int32) (s0 : Int64) (s1 : Int64) (h : zH) : Option (Int64 × zH) :=
  k9 p0 (s0 + s1) (p3 + 1) h
theorem w_X6_totalOwed_b43 (C0 : zCx p l e R s m args below meth c D B0 4 "FranchiseLedgerModel" cX6_totalOwed E 2 82 (Option.some Jvm.ClassFile.FieldType.long) "totalOwed") {r : Int64} {h' : zH} {k9 : Nat → Int64 → Int32 → zH → Option (Int64 × zH)} (hk9 : ∀ (p0 : Nat) (p1 : Int64) (p3 : Int32) (h : zH), k9 p0 p1 p3 h = some (r, h') → zW p l e R s m args below meth c D B0 4 (zEnd D B0 R below args s (zoL r) h') h 9 [(0, .ref p0), (1, .long p1), (3, .int p3)] []) {p0 : Nat} {p3 : Int32} {s0 : Int64} {s1 : Int64} {h : zH} (hf : f_X6_totalOwed_b43 E k9 p0 p3 s0 s1 h = some (r, h')) : zW p l e R s m args below meth c D B0 4 (zEnd D B0 R below args s (zoL r) h') h 43 [(0, .ref p0), (3, .int p3)] [.long s1, .long s0] := by
  unfold f_X6_totalOwed_b43 at hf
  refine zr_ladd C0 dX6_totalOwed_43 ?_
  refine zr_lstore_n (i := 1) (lv' := [(1, .long (s0 + s1)), (0, .ref p0), (3, .int p3)]) C0 dX6_totalOwed_44 rfl (by decide) (by first | rfl | simp [zst1, zst2, zcat_rf]) ?_
  refine zr_iinc (lv' := [(3, .int (p3 + 1)), (1, .long (s0 + s1)), (0, .ref p0)]) C0 dX6_totalOwed_45 2 rfl rfl (by decide) (by first | rfl | simp [zst1, zst2, zcat_rf]) ?_
  refine zr_goto C0 (tgt := 9) dX6_totalOwed_48 (by decide) ?_
  refine zr_sub [2, 1, 0] rfl ?_
  exact hk9 _ _ _ _ hf
def f_X6_totalOwed_l9 (E : zE) : Nat → Nat → Int64 → Int32 → zH → Option (Int64 × zH)
  | 0, _, _, _, _ => none
  | n + 1, p0, p1, p3, h =>
    (gR h p0 1 0).bind fun x1 =>
    (dL h x1 (2 : Int32)).bind fun x3 =>
    if x3 ≤ (p3.toInt64) then (
      some (p1, h)
    ) else (
      (cko h p0 1).bind fun _ =>
      bnd2 (f_X6_of E p0 p3 (4 : Int32) h) fun x9 h7 =>
      if x9 ≤ (0 : Int64) then (
        f_X6_totalOwed_b43 E (f_X6_totalOwed_l9 E n) p0 p3 p1 (0 : Int64) h7
      ) else (
        (cko h7 p0 1).bind fun _ =>
        bnd2 (f_X6_of E p0 p3 (4 : Int32) h7) fun x14 h12 =>
        f_X6_totalOwed_b43 E (f_X6_totalOwed_l9 E n) p0 p3 p1 x14 h12
      )
    )
theorem w_X6_totalOwed_l9 (C0 : zCx p l e R s m args below meth c D B0 4 "FranchiseLedgerModel" cX6_totalOwed E 2 82 (Option.some Jvm.ClassFile.FieldType.long) "totalOwed") {r : Int64} {h' : zH} : ∀ (n : Nat) (p0 : Nat) (p1 : Int64) (p3 : Int32) (h : zH), f_X6_totalOwed_l9 E n p0 p1 p3 h = some (r, h') → zW p l e R s m args below meth c D B0 4 (zEnd D B0 R below args s (zoL r) h') h 9 [(0, .ref p0), (1, .long p1), (3, .int p3)] [] := by
  intro n
  induction n with
  | zero =>
    intro p0 p1 p3 h hf
    unfold f_X6_totalOwed_l9 at hf
    cases hf
  | succ n ih =>
    intro p0 p1 p3 h hf
    unfold f_X6_totalOwed_l9 at hf
    refine zr_iload_n C0 dX6_totalOwed_9 rfl 2 rfl ?_
    refine zr_i2l C0 dX6_totalOwed_10 ?_
    refine zr_aload_n C0 dX6_totalOwed_11 rfl 0 rfl ?_
    obtain ⟨x1, e2, hf⟩ := zbind hf
    refine zr_get C0 fl_X6_9_X6 dX6_totalOwed_12 (zgR e2) ?_
    refine zr_iconst C0 (v := 2) dX6_totalOwed_15 (by decide) ?_
    obtain ⟨x3, e4, hf⟩ := zbind hf
    refine zr_lald C0 dX6_totalOwed_16 e4 ?_
    refine zr_lcmp C0 dX6_totalOwed_17 ?_
    refine zr_if_ge C0 (tgt := 51) dX6_totalOwed_18 (by decide) (fun c5 => ?_) (fun c5 => ?_)
    · have hf := zif_t (zl_ge.mp c5) hf
      refine zr_lload_n C0 dX6_totalOwed_51 rfl 1 rfl ?_
      refine zretW hf ?_
      exact zr_lret C0 rfl dX6_totalOwed_52 rfl
    · have hf := zif_f (zl_gen.mp c5) hf
      refine zr_lload_n C0 dX6_totalOwed_21 rfl 1 rfl ?_
      refine zr_aload_n C0 dX6_totalOwed_22 rfl 0 rfl ?_
      refine zr_iload_n C0 dX6_totalOwed_23 rfl 2 rfl ?_
      refine zr_iconst C0 (v := 4) dX6_totalOwed_24 (by decide) ?_
      obtain ⟨_, e6, hf⟩ := zbind hf
      obtain ⟨x9, h7, e8, hf⟩ := zbind2 hf
      refine zr_callV_r C0 cv_X6_63_X6 rfl (zcko e6) (m_X6_of C0.2.2.2.2.2.2.1 e8) (by decide) (by decide) rfl rfl (Nat.le_of_ble_eq_true rfl) dX6_totalOwed_25 rfl ?_
      refine zr_lconst C0 (v := 0) dX6_totalOwed_28 (by decide) ?_
      refine zr_lcmp C0 dX6_totalOwed_29 ?_
      refine zr_if_le C0 (tgt := 42) dX6_totalOwed_30 (by decide) (fun c10 => ?_) (fun c10 => ?_)
      · have hf := zif_t (zl_le.mp c10) hf
        refine zr_lconst C0 (v := 0) dX6_totalOwed_42 (by decide) ?_
        refine zr_sub [0, 2] rfl ?_
        exact w_X6_totalOwed_b43 C0 ih hf
      · have hf := zif_f (zl_len.mp c10) hf
        refine zr_aload_n C0 dX6_totalOwed_33 rfl 0 rfl ?_
        refine zr_iload_n C0 dX6_totalOwed_34 rfl 2 rfl ?_
        refine zr_iconst C0 (v := 4) dX6_totalOwed_35 (by decide) ?_
        obtain ⟨_, e11, hf⟩ := zbind hf
        obtain ⟨x14, h12, e13, hf⟩ := zbind2 hf
        refine zr_callV_r C0 cv_X6_63_X6 rfl (zcko e11) (m_X6_of C0.2.2.2.2.2.2.1 e13) (by decide) (by decide) rfl rfl (Nat.le_of_ble_eq_true rfl) dX6_totalOwed_36 rfl ?_
        refine zr_goto C0 (tgt := 43) dX6_totalOwed_39 (by decide) ?_
        refine zr_sub [0, 2] rfl ?_
        exact w_X6_totalOwed_b43 C0 ih hf
def f_X6_totalOwed_b0 (E : zE) (p0 : Nat) (h : zH) : Option (Int64 × zH) :=
  (pF h p0 1 2 (.int (0 : Int32))).bind fun h1 =>
  f_X6_totalOwed_l9 E E.1 p0 (0 : Int64) (0 : Int32) h1
theorem w_X6_totalOwed_b0 (C0 : zCx p l e R s m args below meth c D B0 4 "FranchiseLedgerModel" cX6_totalOwed E 2 82 (Option.some Jvm.ClassFile.FieldType.long) "totalOwed") {r : Int64} {h' : zH} {p0 : Nat} {h : zH} (hf : f_X6_totalOwed_b0 E p0 h = some (r, h')) : zW p l e R s m args below meth c D B0 4 (zEnd D B0 R below args s (zoL r) h') h 0 [(0, .ref p0)] [] := by
  unfold f_X6_totalOwed_b0 at hf
  refine zr_aload_n C0 dX6_totalOwed_0 rfl 0 rfl ?_
  refine zr_iconst C0 (v := 0) dX6_totalOwed_1 (by decide) ?_
  obtain ⟨h1, e2, hf⟩ := zbind hf
  refine zr_put C0 pl_X6_50_X6 dX6_totalOwed_2 (fun h => by cases h) rfl rfl e2 ?_
  refine zr_lconst C0 (v := 0) dX6_totalOwed_5 (by decide) ?_
  refine zr_lstore_n (i := 1) (lv' := [(1, .long (0 : Int64)), (0, .ref p0)]) C0 dX6_totalOwed_6 rfl (by decide) (by first | rfl | simp [zst1, zst2, zcat_rf]) ?_
  refine zr_iconst C0 (v := 0) dX6_totalOwed_7 (by decide) ?_
  refine zr_istore_n (i := 3) (lv' := [(3, .int (0 : Int32)), (1, .long (0 : Int64)), (0, .ref p0)]) C0 dX6_totalOwed_8 rfl (by decide) (by first | rfl | simp [zst1, zst2, zcat_rf]) ?_
  refine zr_sub [2, 1, 0] rfl ?_
  exact w_X6_totalOwed_l9 C0 _ _ _ _ _ hf
def f_X6_totalOwed (E : zE) (p0 : Nat) (h : zH) : Option (Int64 × zH) := f_X6_totalOwed_b0 E p0 h
theorem m_X6_totalOwed {l : Launch} (hst : l.stackTraces = false) {D : zD} {B0 : Nat} {E : zE} {p0 : Nat} {h h' : zH} {r : Int64} (hf : f_X6_totalOwed E p0 h = some (r, h')) : zMet l yX6_totalOwed (ws_ yX6_totalOwed cX6_totalOwed 4 (Option.some Jvm.ClassFile.FieldType.long)) 2 82 D B0 E [.ref p0] h (zoL r) h' := by
  unfold f_X6_totalOwed at hf
  refine zMet_of hst (by decide +kernel) rfl rfl (Nat.le_of_ble_eq_true rfl) (fun p e R s m below meth c C0 hno => ?_)
  show zW _ _ _ _ _ _ _ _ _ _ _ _ _ _ _ _ [(0, .ref p0)] []
  exact w_X6_totalOwed_b0 C0 hf
def f_X6_pay_b50 (E : zE) (h : zH) : Option (Int64 × zH) :=
  some ((0 : Int64), h)
theorem w_X6_pay_b50 (C0 : zCx p l e R s m args below meth c D B0 4 "FranchiseLedgerModel" cX6_pay E 3 106 (Option.some Jvm.ClassFile.FieldType.long) "pay") {r : Int64} {h' : zH} {h : zH} (hf : f_X6_pay_b50 E  h = some (r, h')) : zW p l e R s m args below meth c D B0 4 (zEnd D B0 R below args s (zoL r) h') h 50 [] [] := by
  unfold f_X6_pay_b50 at hf
  refine zr_lconst C0 (v := 0) dX6_pay_50 (by decide) ?_
  refine zretW hf ?_
  exact zr_lret C0 rfl dX6_pay_51 rfl
def f_X6_pay_b43 (E : zE) (p0 : Nat) (p1 : Int32) (p2 : Int64) (s0 : Nat) (s1 : Int32) (h : zH) : Option (Int64 × zH) :=
  (cko h s0 1).bind fun _ =>
  bnd2 (f_X6_throwsIf E s0 s1 (2 : Int32) h) fun x4 h2 =>
  if x4 = 0 then (
    (cko h2 p0 1).bind fun _ =>
    bnd2 (f_X6_add E p0 p1 (4 : Int32) (-p2) h2) fun x9 h7 =>
    (cko h7 p0 1).bind fun _ =>
    bnd2 (f_X6_of E p0 p1 (4 : Int32) h7) fun x13 h11 =>
    some (x13, h11)
  ) else (
    f_X6_pay_b50 E  h2
  )
theorem w_X6_pay_b43 (C0 : zCx p l e R s m args below meth c D B0 4 "FranchiseLedgerModel" cX6_pay E 3 106 (Option.some Jvm.ClassFile.FieldType.long) "pay") {r : Int64} {h' : zH} {p0 : Nat} {p1 : Int32} {p2 : Int64} {s0 : Nat} {s1 : Int32} {h : zH} (hf : f_X6_pay_b43 E p0 p1 p2 s0 s1 h = some (r, h')) : zW p l e R s m args below meth c D B0 4 (zEnd D B0 R below args s (zoL r) h') h 43 [(0, .ref p0), (1, .int p1), (2, .long p2)] [.int s1, .ref s0] := by
  unfold f_X6_pay_b43 at hf
  refine zr_iconst C0 (v := 2) dX6_pay_43 (by decide) ?_
  obtain ⟨_, e1, hf⟩ := zbind hf
  obtain ⟨x4, h2, e3, hf⟩ := zbind2 hf
  refine zr_callV_r C0 cv_X6_81_X6 rfl (zcko e1) (m_X6_throwsIf C0.2.2.2.2.2.2.1 e3) (by decide) (by decide) rfl rfl (Nat.le_of_ble_eq_true rfl) dX6_pay_44 rfl ?_
  refine zr_if_eq C0 (tgt := 52) dX6_pay_47 (by decide) (fun c5 => ?_) (fun c5 => ?_)
  · have hf := zif_t c5 hf
    refine zr_aload_n C0 dX6_pay_52 rfl 0 rfl ?_
    refine zr_iload_n C0 dX6_pay_53 rfl 1 rfl ?_
    refine zr_iconst C0 (v := 4) dX6_pay_54 (by decide) ?_
    refine zr_lload_n C0 dX6_pay_55 rfl 2 rfl ?_
    refine zr_lneg C0 dX6_pay_56 ?_
    obtain ⟨_, e6, hf⟩ := zbind hf
    obtain ⟨x9, h7, e8, hf⟩ := zbind2 hf
    refine zr_callV_r C0 cv_X6_224_X6 rfl (zcko e6) (m_X6_add C0.2.2.2.2.2.2.1 e8) (by decide) (by decide) rfl rfl (Nat.le_of_ble_eq_true rfl) dX6_pay_57 rfl ?_
    refine zr_aload_n C0 dX6_pay_60 rfl 0 rfl ?_
    refine zr_iload_n C0 dX6_pay_61 rfl 1 rfl ?_
    refine zr_iconst C0 (v := 4) dX6_pay_62 (by decide) ?_
    obtain ⟨_, e10, hf⟩ := zbind hf
    obtain ⟨x13, h11, e12, hf⟩ := zbind2 hf
    refine zr_callV_r C0 cv_X6_63_X6 rfl (zcko e10) (m_X6_of C0.2.2.2.2.2.2.1 e12) (by decide) (by decide) rfl rfl (Nat.le_of_ble_eq_true rfl) dX6_pay_63 rfl ?_
    refine zretW hf ?_
    exact zr_lret C0 rfl dX6_pay_66 rfl
  · have hf := zif_f c5 hf
    refine zr_sub [] rfl ?_
    exact w_X6_pay_b50 C0 hf
def f_X6_pay_b19 (E : zE) (p0 : Nat) (p1 : Int32) (p2 : Int64) (s0 : Nat) (s1 : Int32) (h : zH) : Option (Int64 × zH) :=
  (cko h s0 1).bind fun _ =>
  bnd2 (f_X6_throwsIf E s0 s1 (1 : Int32) h) fun x4 h2 =>
  if x4 = 0 then (
    bnd2 (f_X6_inRange E p2 (1 : Int64) (1000000000 : Int64) h2) fun x8 h6 =>
    if x8 = 0 then (
      f_X6_pay_b43 E p0 p1 p2 p0 (1 : Int32) h6
    ) else (
      f_X6_pay_b43 E p0 p1 p2 p0 (0 : Int32) h6
    )
  ) else (
    f_X6_pay_b50 E  h2
  )
theorem w_X6_pay_b19 (C0 : zCx p l e R s m args below meth c D B0 4 "FranchiseLedgerModel" cX6_pay E 3 106 (Option.some Jvm.ClassFile.FieldType.long) "pay") {r : Int64} {h' : zH} {p0 : Nat} {p1 : Int32} {p2 : Int64} {s0 : Nat} {s1 : Int32} {h : zH} (hf : f_X6_pay_b19 E p0 p1 p2 s0 s1 h = some (r, h')) : zW p l e R s m args below meth c D B0 4 (zEnd D B0 R below args s (zoL r) h') h 19 [(0, .ref p0), (1, .int p1), (2, .long p2)] [.int s1, .ref s0] := by
  unfold f_X6_pay_b19 at hf
  refine zr_iconst C0 (v := 1) dX6_pay_19 (by decide) ?_
  obtain ⟨_, e1, hf⟩ := zbind hf
  obtain ⟨x4, h2, e3, hf⟩ := zbind2 hf
  refine zr_callV_r C0 cv_X6_81_X6 rfl (zcko e1) (m_X6_throwsIf C0.2.2.2.2.2.2.1 e3) (by decide) (by decide) rfl rfl (Nat.le_of_ble_eq_true rfl) dX6_pay_20 rfl ?_
  refine zr_if_ne C0 (tgt := 50) dX6_pay_23 (by decide) (fun c5 => ?_) (fun c5 => ?_)
  · have hf := zif_f c5 hf
    refine zr_sub [] rfl ?_
    exact w_X6_pay_b50 C0 hf
  · have hf := zif_t c5 hf
    refine zr_aload_n C0 dX6_pay_26 rfl 0 rfl ?_
    refine zr_lload_n C0 dX6_pay_27 rfl 2 rfl ?_
    refine zr_lconst C0 (v := 1) dX6_pay_28 (by decide) ?_
    refine zr_ldc2 C0 (v := 1000000000) q2795 dX6_pay_29 ?_
    obtain ⟨x8, h6, e7, hf⟩ := zbind2 hf
    refine zr_callS_r C0 cv_X6_53 (m_X6_inRange C0.2.2.2.2.2.2.1 e7) (by decide) (by decide) rfl rfl (Nat.le_of_ble_eq_true rfl) dX6_pay_32 rfl ?_
    refine zr_if_ne C0 (tgt := 42) dX6_pay_35 (by decide) (fun c9 => ?_) (fun c9 => ?_)
    · have hf := zif_f c9 hf
      refine zr_iconst C0 (v := 0) dX6_pay_42 (by decide) ?_
      exact w_X6_pay_b43 C0 hf
    · have hf := zif_t c9 hf
      refine zr_iconst C0 (v := 1) dX6_pay_38 (by decide) ?_
      refine zr_goto C0 (tgt := 43) dX6_pay_39 (by decide) ?_
      exact w_X6_pay_b43 C0 hf
def f_X6_pay_b0 (E : zE) (p0 : Nat) (p1 : Int32) (p2 : Int64) (h : zH) : Option (Int64 × zH) :=
  (pF h p0 1 2 (.int (0 : Int32))).bind fun h1 =>
  (cko h1 p0 1).bind fun _ =>
  bnd2 (f_X6_isFranchisee E p0 p1 h1) fun x6 h4 =>
  if x6 = 0 then (
    f_X6_pay_b19 E p0 p1 p2 p0 (1 : Int32) h4
  ) else (
    f_X6_pay_b19 E p0 p1 p2 p0 (0 : Int32) h4
  )
theorem w_X6_pay_b0 (C0 : zCx p l e R s m args below meth c D B0 4 "FranchiseLedgerModel" cX6_pay E 3 106 (Option.some Jvm.ClassFile.FieldType.long) "pay") {r : Int64} {h' : zH} {p0 : Nat} {p1 : Int32} {p2 : Int64} {h : zH} (hf : f_X6_pay_b0 E p0 p1 p2 h = some (r, h')) : zW p l e R s m args below meth c D B0 4 (zEnd D B0 R below args s (zoL r) h') h 0 [(0, .ref p0), (1, .int p1), (2, .long p2)] [] := by
  unfold f_X6_pay_b0 at hf
  refine zr_aload_n C0 dX6_pay_0 rfl 0 rfl ?_
  refine zr_iconst C0 (v := 0) dX6_pay_1 (by decide) ?_
  obtain ⟨h1, e2, hf⟩ := zbind hf
  refine zr_put C0 pl_X6_50_X6 dX6_pay_2 (fun h => by cases h) rfl rfl e2 ?_
  refine zr_aload_n C0 dX6_pay_5 rfl 0 rfl ?_
  refine zr_aload_n C0 dX6_pay_6 rfl 0 rfl ?_
  refine zr_iload_n C0 dX6_pay_7 rfl 1 rfl ?_
  obtain ⟨_, e3, hf⟩ := zbind hf
  obtain ⟨x6, h4, e5, hf⟩ := zbind2 hf
  refine zr_callV_r C0 cv_X6_85_X6 rfl (zcko e3) (m_X6_isFranchisee C0.2.2.2.2.2.2.1 e5) (by decide) (by decide) rfl rfl (Nat.le_of_ble_eq_true rfl) dX6_pay_8 rfl ?_
  refine zr_if_ne C0 (tgt := 18) dX6_pay_11 (by decide) (fun c7 => ?_) (fun c7 => ?_)
  · have hf := zif_f c7 hf
    refine zr_iconst C0 (v := 0) dX6_pay_18 (by decide) ?_
    exact w_X6_pay_b19 C0 hf
  · have hf := zif_t c7 hf
    refine zr_iconst C0 (v := 1) dX6_pay_14 (by decide) ?_
    refine zr_goto C0 (tgt := 19) dX6_pay_15 (by decide) ?_
    exact w_X6_pay_b19 C0 hf
def f_X6_pay (E : zE) (p0 : Nat) (p1 : Int32) (p2 : Int64) (h : zH) : Option (Int64 × zH) := f_X6_pay_b0 E p0 p1 p2 h
theorem m_X6_pay {l : Launch} (hst : l.stackTraces = false) {D : zD} {B0 : Nat} {E : zE} {p0 : Nat} {p1 : Int32} {p2 : Int64} {h h' : zH} {r : Int64} (hf : f_X6_pay E p0 p1 p2 h = some (r, h')) : zMet l yX6_pay (ws_ yX6_pay cX6_pay 4 (Option.some Jvm.ClassFile.FieldType.long)) 3 106 D B0 E [.ref p0, .int p1, .long p2] h (zoL r) h' := by
  unfold f_X6_pay at hf
  refine zMet_of hst (by decide +kernel) rfl rfl (Nat.le_of_ble_eq_true rfl) (fun p e R s m below meth c C0 hno => ?_)
  show zW _ _ _ _ _ _ _ _ _ _ _ _ _ _ _ _ [(0, .ref p0), (1, .int p1), (2, .long p2)] []
  exact w_X6_pay_b0 C0 hf
def f_X6_payOff_b50 (E : zE) (h : zH) : Option (Int32 × zH) :=
  some ((0 : Int32), h)
theorem w_X6_payOff_b50 (C0 : zCx p l e R s m args below meth c D B0 7 "FranchiseLedgerModel" cX6_payOff E 3 106 (Option.some Jvm.ClassFile.FieldType.int) "payOff") {r : Int32} {h' : zH} {h : zH} (hf : f_X6_payOff_b50 E  h = some (r, h')) : zW p l e R s m args below meth c D B0 7 (zEnd D B0 R below args s (zoI r) h') h 50 [] [] := by
  unfold f_X6_payOff_b50 at hf
  refine zr_iconst C0 (v := 0) dX6_payOff_50 (by decide) ?_
  refine zretW hf ?_
  exact zr_iret C0 (ty := .int) rfl rfl dX6_payOff_51 rfl
def f_X6_payOff_b115 (E : zE) (s0 : Int32) (h : zH) : Option (Int32 × zH) :=
  some (s0, h)
theorem w_X6_payOff_b115 (C0 : zCx p l e R s m args below meth c D B0 7 "FranchiseLedgerModel" cX6_payOff E 3 106 (Option.some Jvm.ClassFile.FieldType.int) "payOff") {r : Int32} {h' : zH} {s0 : Int32} {h : zH} (hf : f_X6_payOff_b115 E s0 h = some (r, h')) : zW p l e R s m args below meth c D B0 7 (zEnd D B0 R below args s (zoI r) h') h 115 [] [.int s0] := by
  unfold f_X6_payOff_b115 at hf
  refine zretW hf ?_
  exact zr_iret C0 (ty := .int) rfl rfl dX6_payOff_115 rfl
def f_X6_payOff_b102 (E : zE) (p4 : Int64) (p6 : Int32) (h : zH) : Option (Int32 × zH) :=
  if p4 ≤ (0 : Int64) then (
    f_X6_payOff_b115 E p6 h
  ) else (
    f_X6_payOff_b115 E (-1 : Int32) h
  )
theorem w_X6_payOff_b102 (C0 : zCx p l e R s m args below meth c D B0 7 "FranchiseLedgerModel" cX6_payOff E 3 106 (Option.some Jvm.ClassFile.FieldType.int) "payOff") {r : Int32} {h' : zH} {p4 : Int64} {p6 : Int32} {h : zH} (hf : f_X6_payOff_b102 E p4 p6 h = some (r, h')) : zW p l e R s m args below meth c D B0 7 (zEnd D B0 R below args s (zoI r) h') h 102 [(4, .long p4), (6, .int p6)] [] := by
  unfold f_X6_payOff_b102 at hf
  refine zr_lload C0 dX6_payOff_102 0 rfl ?_
  refine zr_lconst C0 (v := 0) dX6_payOff_104 (by decide) ?_
  refine zr_lcmp C0 dX6_payOff_105 ?_
  refine zr_if_le C0 (tgt := 113) dX6_payOff_106 (by decide) (fun c1 => ?_) (fun c1 => ?_)
  · have hf := zif_t (zl_le.mp c1) hf
    refine zr_iload C0 dX6_payOff_113 1 rfl ?_
    refine zr_sub [] rfl ?_
    exact w_X6_payOff_b115 C0 hf
  · have hf := zif_f (zl_len.mp c1) hf
    refine zr_iconst C0 (v := -1) dX6_payOff_109 (by decide) ?_
    refine zr_goto C0 (tgt := 115) dX6_payOff_110 (by decide) ?_
    refine zr_sub [] rfl ?_
    exact w_X6_payOff_b115 C0 hf
def f_X6_payOff_l63 (E : zE) : Nat → Nat → Int64 → Int64 → Int32 → zH → Option (Int32 × zH)
  | 0, _, _, _, _, _ => none
  | n + 1, p0, p2, p4, p6, h =>
    if p4 ≤ (0 : Int64) then (
      f_X6_payOff_b102 E p4 p6 h
    ) else (
      if (120 : Int32) ≤ p6 then (
        f_X6_payOff_b102 E p4 p6 h
      ) else (
        (gR h p0 1 0).bind fun x3 =>
        (dL h x3 (6 : Int32)).bind fun x5 =>
        bnd2 (f_X6_rated E p4 x5 h) fun x9 h7 =>
        f_X6_payOff_l63 E n p0 p2 (p4 + (x9 - p2)) (p6 + 1) h7
      )
    )
theorem w_X6_payOff_l63 (C0 : zCx p l e R s m args below meth c D B0 7 "FranchiseLedgerModel" cX6_payOff E 3 106 (Option.some Jvm.ClassFile.FieldType.int) "payOff") {r : Int32} {h' : zH} : ∀ (n : Nat) (p0 : Nat) (p2 : Int64) (p4 : Int64) (p6 : Int32) (h : zH), f_X6_payOff_l63 E n p0 p2 p4 p6 h = some (r, h') → zW p l e R s m args below meth c D B0 7 (zEnd D B0 R below args s (zoI r) h') h 63 [(0, .ref p0), (2, .long p2), (4, .long p4), (6, .int p6)] [] := by
  intro n
  induction n with
  | zero =>
    intro p0 p2 p4 p6 h hf
    unfold f_X6_payOff_l63 at hf
    cases hf
  | succ n ih =>
    intro p0 p2 p4 p6 h hf
    unfold f_X6_payOff_l63 at hf
    refine zr_lload C0 dX6_payOff_63 2 rfl ?_
    refine zr_lconst C0 (v := 0) dX6_payOff_65 (by decide) ?_
    refine zr_lcmp C0 dX6_payOff_66 ?_
    refine zr_if_le C0 (tgt := 102) dX6_payOff_67 (by decide) (fun c1 => ?_) (fun c1 => ?_)
    · have hf := zif_t (zl_le.mp c1) hf
      refine zr_sub [2, 3] rfl ?_
      exact w_X6_payOff_b102 C0 hf
    · have hf := zif_f (zl_len.mp c1) hf
      refine zr_iload C0 dX6_payOff_70 3 rfl ?_
      refine zr_bipush C0 (v := 120) dX6_payOff_72 (by decide) ?_
      refine zr_icmp_ge C0 (tgt := 102) dX6_payOff_74 (by decide) (fun c2 => ?_) (fun c2 => ?_)
      · have hf := zif_t c2 hf
        refine zr_sub [2, 3] rfl ?_
        exact w_X6_payOff_b102 C0 hf
      · have hf := zif_f c2 hf
        refine zr_lload C0 dX6_payOff_77 2 rfl ?_
        refine zr_lload C0 dX6_payOff_79 2 rfl ?_
        refine zr_aload_n C0 dX6_payOff_81 rfl 0 rfl ?_
        obtain ⟨x3, e4, hf⟩ := zbind hf
        refine zr_get C0 fl_X6_9_X6 dX6_payOff_82 (zgR e4) ?_
        refine zr_bipush C0 (v := 6) dX6_payOff_85 (by decide) ?_
        obtain ⟨x5, e6, hf⟩ := zbind hf
        refine zr_lald C0 dX6_payOff_87 e6 ?_
        obtain ⟨x9, h7, e8, hf⟩ := zbind2 hf
        refine zr_callS_r C0 cv_X6_187 (m_X6_rated C0.2.2.2.2.2.2.1 e8) (by decide) (by decide) rfl rfl (Nat.le_of_ble_eq_true rfl) dX6_payOff_88 rfl ?_
        refine zr_lload_n C0 dX6_payOff_91 rfl 1 rfl ?_
        refine zr_lsub C0 dX6_payOff_92 ?_
        refine zr_ladd C0 dX6_payOff_93 ?_
        refine zr_lstore (i := 4) (lv' := [(4, .long (p4 + (x9 - p2))), (0, .ref p0), (2, .long p2), (6, .int p6)]) C0 dX6_payOff_94 (by decide) (by first | rfl | simp [zst1, zst2, zcat_rf]) ?_
        refine zr_iinc (lv' := [(6, .int (p6 + 1)), (4, .long (p4 + (x9 - p2))), (0, .ref p0), (2, .long p2)]) C0 dX6_payOff_96 3 rfl rfl (by decide) (by first | rfl | simp [zst1, zst2, zcat_rf]) ?_
        refine zr_goto C0 (tgt := 63) dX6_payOff_99 (by decide) ?_
        refine zr_sub [2, 3, 1, 0] rfl ?_
        exact ih _ _ _ _ _ hf
def f_X6_payOff_b43 (E : zE) (p0 : Nat) (p1 : Int32) (p2 : Int64) (s0 : Nat) (s1 : Int32) (h : zH) : Option (Int32 × zH) :=
  (cko h s0 1).bind fun _ =>
  bnd2 (f_X6_throwsIf E s0 s1 (2 : Int32) h) fun x4 h2 =>
  if x4 = 0 then (
    (cko h2 p0 1).bind fun _ =>
    bnd2 (f_X6_of E p0 p1 (4 : Int32) h2) fun x9 h7 =>
    f_X6_payOff_l63 E E.1 p0 p2 x9 (0 : Int32) h7
  ) else (
    f_X6_payOff_b50 E  h2
  )
theorem w_X6_payOff_b43 (C0 : zCx p l e R s m args below meth c D B0 7 "FranchiseLedgerModel" cX6_payOff E 3 106 (Option.some Jvm.ClassFile.FieldType.int) "payOff") {r : Int32} {h' : zH} {p0 : Nat} {p1 : Int32} {p2 : Int64} {s0 : Nat} {s1 : Int32} {h : zH} (hf : f_X6_payOff_b43 E p0 p1 p2 s0 s1 h = some (r, h')) : zW p l e R s m args below meth c D B0 7 (zEnd D B0 R below args s (zoI r) h') h 43 [(0, .ref p0), (1, .int p1), (2, .long p2)] [.int s1, .ref s0] := by
  unfold f_X6_payOff_b43 at hf
  refine zr_iconst C0 (v := 2) dX6_payOff_43 (by decide) ?_
  obtain ⟨_, e1, hf⟩ := zbind hf
  obtain ⟨x4, h2, e3, hf⟩ := zbind2 hf
  refine zr_callV_r C0 cv_X6_81_X6 rfl (zcko e1) (m_X6_throwsIf C0.2.2.2.2.2.2.1 e3) (by decide) (by decide) rfl rfl (Nat.le_of_ble_eq_true rfl) dX6_payOff_44 rfl ?_
  refine zr_if_eq C0 (tgt := 52) dX6_payOff_47 (by decide) (fun c5 => ?_) (fun c5 => ?_)
  · have hf := zif_t c5 hf
    refine zr_aload_n C0 dX6_payOff_52 rfl 0 rfl ?_
    refine zr_iload_n C0 dX6_payOff_53 rfl 1 rfl ?_
    refine zr_iconst C0 (v := 4) dX6_payOff_54 (by decide) ?_
    obtain ⟨_, e6, hf⟩ := zbind hf
    obtain ⟨x9, h7, e8, hf⟩ := zbind2 hf
    refine zr_callV_r C0 cv_X6_63_X6 rfl (zcko e6) (m_X6_of C0.2.2.2.2.2.2.1 e8) (by decide) (by decide) rfl rfl (Nat.le_of_ble_eq_true rfl) dX6_payOff_55 rfl ?_
    refine zr_lstore (i := 4) (lv' := [(4, .long x9), (0, .ref p0), (1, .int p1), (2, .long p2)]) C0 dX6_payOff_58 (by decide) (by first | rfl | simp [zst1, zst2, zcat_rf]) ?_
    refine zr_iconst C0 (v := 0) dX6_payOff_60 (by decide) ?_
    refine zr_istore (i := 6) (lv' := [(6, .int (0 : Int32)), (4, .long x9), (0, .ref p0), (1, .int p1), (2, .long p2)]) C0 dX6_payOff_61 (by decide) (by first | rfl | simp [zst1, zst2, zcat_rf]) ?_
    refine zr_sub [2, 4, 1, 0] rfl ?_
    exact w_X6_payOff_l63 C0 _ _ _ _ _ _ hf
  · have hf := zif_f c5 hf
    refine zr_sub [] rfl ?_
    exact w_X6_payOff_b50 C0 hf
def f_X6_payOff_b19 (E : zE) (p0 : Nat) (p1 : Int32) (p2 : Int64) (s0 : Nat) (s1 : Int32) (h : zH) : Option (Int32 × zH) :=
  (cko h s0 1).bind fun _ =>
  bnd2 (f_X6_throwsIf E s0 s1 (1 : Int32) h) fun x4 h2 =>
  if x4 = 0 then (
    bnd2 (f_X6_inRange E p2 (1 : Int64) (1000000000 : Int64) h2) fun x8 h6 =>
    if x8 = 0 then (
      f_X6_payOff_b43 E p0 p1 p2 p0 (1 : Int32) h6
    ) else (
      f_X6_payOff_b43 E p0 p1 p2 p0 (0 : Int32) h6
    )
  ) else (
    f_X6_payOff_b50 E  h2
  )
theorem w_X6_payOff_b19 (C0 : zCx p l e R s m args below meth c D B0 7 "FranchiseLedgerModel" cX6_payOff E 3 106 (Option.some Jvm.ClassFile.FieldType.int) "payOff") {r : Int32} {h' : zH} {p0 : Nat} {p1 : Int32} {p2 : Int64} {s0 : Nat} {s1 : Int32} {h : zH} (hf : f_X6_payOff_b19 E p0 p1 p2 s0 s1 h = some (r, h')) : zW p l e R s m args below meth c D B0 7 (zEnd D B0 R below args s (zoI r) h') h 19 [(0, .ref p0), (1, .int p1), (2, .long p2)] [.int s1, .ref s0] := by
  unfold f_X6_payOff_b19 at hf
  refine zr_iconst C0 (v := 1) dX6_payOff_19 (by decide) ?_
  obtain ⟨_, e1, hf⟩ := zbind hf
  obtain ⟨x4, h2, e3, hf⟩ := zbind2 hf
  refine zr_callV_r C0 cv_X6_81_X6 rfl (zcko e1) (m_X6_throwsIf C0.2.2.2.2.2.2.1 e3) (by decide) (by decide) rfl rfl (Nat.le_of_ble_eq_true rfl) dX6_payOff_20 rfl ?_
  refine zr_if_ne C0 (tgt := 50) dX6_payOff_23 (by decide) (fun c5 => ?_) (fun c5 => ?_)
  · have hf := zif_f c5 hf
    refine zr_sub [] rfl ?_
    exact w_X6_payOff_b50 C0 hf
  · have hf := zif_t c5 hf
    refine zr_aload_n C0 dX6_payOff_26 rfl 0 rfl ?_
    refine zr_lload_n C0 dX6_payOff_27 rfl 2 rfl ?_
    refine zr_lconst C0 (v := 1) dX6_payOff_28 (by decide) ?_
    refine zr_ldc2 C0 (v := 1000000000) q2795 dX6_payOff_29 ?_
    obtain ⟨x8, h6, e7, hf⟩ := zbind2 hf
    refine zr_callS_r C0 cv_X6_53 (m_X6_inRange C0.2.2.2.2.2.2.1 e7) (by decide) (by decide) rfl rfl (Nat.le_of_ble_eq_true rfl) dX6_payOff_32 rfl ?_
    refine zr_if_ne C0 (tgt := 42) dX6_payOff_35 (by decide) (fun c9 => ?_) (fun c9 => ?_)
    · have hf := zif_f c9 hf
      refine zr_iconst C0 (v := 0) dX6_payOff_42 (by decide) ?_
      exact w_X6_payOff_b43 C0 hf
    · have hf := zif_t c9 hf
      refine zr_iconst C0 (v := 1) dX6_payOff_38 (by decide) ?_
      refine zr_goto C0 (tgt := 43) dX6_payOff_39 (by decide) ?_
      exact w_X6_payOff_b43 C0 hf
def f_X6_payOff_b0 (E : zE) (p0 : Nat) (p1 : Int32) (p2 : Int64) (h : zH) : Option (Int32 × zH) :=
  (pF h p0 1 2 (.int (0 : Int32))).bind fun h1 =>
  (cko h1 p0 1).bind fun _ =>
  bnd2 (f_X6_isFranchisee E p0 p1 h1) fun x6 h4 =>
  if x6 = 0 then (
    f_X6_payOff_b19 E p0 p1 p2 p0 (1 : Int32) h4
  ) else (
    f_X6_payOff_b19 E p0 p1 p2 p0 (0 : Int32) h4
  )
theorem w_X6_payOff_b0 (C0 : zCx p l e R s m args below meth c D B0 7 "FranchiseLedgerModel" cX6_payOff E 3 106 (Option.some Jvm.ClassFile.FieldType.int) "payOff") {r : Int32} {h' : zH} {p0 : Nat} {p1 : Int32} {p2 : Int64} {h : zH} (hf : f_X6_payOff_b0 E p0 p1 p2 h = some (r, h')) : zW p l e R s m args below meth c D B0 7 (zEnd D B0 R below args s (zoI r) h') h 0 [(0, .ref p0), (1, .int p1), (2, .long p2)] [] := by
  unfold f_X6_payOff_b0 at hf
  refine zr_aload_n C0 dX6_payOff_0 rfl 0 rfl ?_
  refine zr_iconst C0 (v := 0) dX6_payOff_1 (by decide) ?_
  obtain ⟨h1, e2, hf⟩ := zbind hf
  refine zr_put C0 pl_X6_50_X6 dX6_payOff_2 (fun h => by cases h) rfl rfl e2 ?_
  refine zr_aload_n C0 dX6_payOff_5 rfl 0 rfl ?_
  refine zr_aload_n C0 dX6_payOff_6 rfl 0 rfl ?_
  refine zr_iload_n C0 dX6_payOff_7 rfl 1 rfl ?_
  obtain ⟨_, e3, hf⟩ := zbind hf
  obtain ⟨x6, h4, e5, hf⟩ := zbind2 hf
  refine zr_callV_r C0 cv_X6_85_X6 rfl (zcko e3) (m_X6_isFranchisee C0.2.2.2.2.2.2.1 e5) (by decide) (by decide) rfl rfl (Nat.le_of_ble_eq_true rfl) dX6_payOff_8 rfl ?_
  refine zr_if_ne C0 (tgt := 18) dX6_payOff_11 (by decide) (fun c7 => ?_) (fun c7 => ?_)
  · have hf := zif_f c7 hf
    refine zr_iconst C0 (v := 0) dX6_payOff_18 (by decide) ?_
    exact w_X6_payOff_b19 C0 hf
  · have hf := zif_t c7 hf
    refine zr_iconst C0 (v := 1) dX6_payOff_14 (by decide) ?_
    refine zr_goto C0 (tgt := 19) dX6_payOff_15 (by decide) ?_
    exact w_X6_payOff_b19 C0 hf
def f_X6_payOff (E : zE) (p0 : Nat) (p1 : Int32) (p2 : Int64) (h : zH) : Option (Int32 × zH) := f_X6_payOff_b0 E p0 p1 p2 h
theorem m_X6_payOff {l : Launch} (hst : l.stackTraces = false) {D : zD} {B0 : Nat} {E : zE} {p0 : Nat} {p1 : Int32} {p2 : Int64} {h h' : zH} {r : Int32} (hf : f_X6_payOff E p0 p1 p2 h = some (r, h')) : zMet l yX6_payOff (ws_ yX6_payOff cX6_payOff 7 (Option.some Jvm.ClassFile.FieldType.int)) 3 106 D B0 E [.ref p0, .int p1, .long p2] h (zoI r) h' := by
  unfold f_X6_payOff at hf
  refine zMet_of hst (by decide +kernel) rfl rfl (Nat.le_of_ble_eq_true rfl) (fun p e R s m below meth c C0 hno => ?_)
  show zW _ _ _ _ _ _ _ _ _ _ _ _ _ _ _ _ [(0, .ref p0), (1, .int p1), (2, .long p2)] []
  exact w_X6_payOff_b0 C0 hf
def f_X6_monthsOverdue_b38 (E : zE) (s0 : Int32) (h : zH) : Option (Int32 × zH) :=
  some (s0, h)
theorem w_X6_monthsOverdue_b38 (C0 : zCx p l e R s m args below meth c D B0 2 "FranchiseLedgerModel" cX6_monthsOverdue E 3 106 (Option.some Jvm.ClassFile.FieldType.int) "monthsOverdue") {r : Int32} {h' : zH} {s0 : Int32} {h : zH} (hf : f_X6_monthsOverdue_b38 E s0 h = some (r, h')) : zW p l e R s m args below meth c D B0 2 (zEnd D B0 R below args s (zoI r) h') h 38 [] [.int s0] := by
  unfold f_X6_monthsOverdue_b38 at hf
  refine zretW hf ?_
  exact zr_iret C0 (ty := .int) rfl rfl dX6_monthsOverdue_38 rfl
def f_X6_monthsOverdue_b19 (E : zE) (p0 : Nat) (p1 : Int32) (s0 : Nat) (s1 : Int32) (h : zH) : Option (Int32 × zH) :=
  (cko h s0 1).bind fun _ =>
  bnd2 (f_X6_throwsIf E s0 s1 (1 : Int32) h) fun x4 h2 =>
  if x4 = 0 then (
    (cko h2 p0 1).bind fun _ =>
    bnd2 (f_X6_of E p0 p1 (6 : Int32) h2) fun x9 h7 =>
    f_X6_monthsOverdue_b38 E (x9.toInt32) h7
  ) else (
    f_X6_monthsOverdue_b38 E (0 : Int32) h2
  )
theorem w_X6_monthsOverdue_b19 (C0 : zCx p l e R s m args below meth c D B0 2 "FranchiseLedgerModel" cX6_monthsOverdue E 3 106 (Option.some Jvm.ClassFile.FieldType.int) "monthsOverdue") {r : Int32} {h' : zH} {p0 : Nat} {p1 : Int32} {s0 : Nat} {s1 : Int32} {h : zH} (hf : f_X6_monthsOverdue_b19 E p0 p1 s0 s1 h = some (r, h')) : zW p l e R s m args below meth c D B0 2 (zEnd D B0 R below args s (zoI r) h') h 19 [(0, .ref p0), (1, .int p1)] [.int s1, .ref s0] := by
  unfold f_X6_monthsOverdue_b19 at hf
  refine zr_iconst C0 (v := 1) dX6_monthsOverdue_19 (by decide) ?_
  obtain ⟨_, e1, hf⟩ := zbind hf
  obtain ⟨x4, h2, e3, hf⟩ := zbind2 hf
  refine zr_callV_r C0 cv_X6_81_X6 rfl (zcko e1) (m_X6_throwsIf C0.2.2.2.2.2.2.1 e3) (by decide) (by decide) rfl rfl (Nat.le_of_ble_eq_true rfl) dX6_monthsOverdue_20 rfl ?_
  refine zr_if_eq C0 (tgt := 30) dX6_monthsOverdue_23 (by decide) (fun c5 => ?_) (fun c5 => ?_)
  · have hf := zif_t c5 hf
    refine zr_aload_n C0 dX6_monthsOverdue_30 rfl 0 rfl ?_
    refine zr_iload_n C0 dX6_monthsOverdue_31 rfl 1 rfl ?_
    refine zr_bipush C0 (v := 6) dX6_monthsOverdue_32 (by decide) ?_
    obtain ⟨_, e6, hf⟩ := zbind hf
    obtain ⟨x9, h7, e8, hf⟩ := zbind2 hf
    refine zr_callV_r C0 cv_X6_63_X6 rfl (zcko e6) (m_X6_of C0.2.2.2.2.2.2.1 e8) (by decide) (by decide) rfl rfl (Nat.le_of_ble_eq_true rfl) dX6_monthsOverdue_34 rfl ?_
    refine zr_l2i C0 dX6_monthsOverdue_37 ?_
    refine zr_sub [] rfl ?_
    exact w_X6_monthsOverdue_b38 C0 hf
  · have hf := zif_f c5 hf
    refine zr_iconst C0 (v := 0) dX6_monthsOverdue_26 (by decide) ?_
    refine zr_goto C0 (tgt := 38) dX6_monthsOverdue_27 (by decide) ?_
    refine zr_sub [] rfl ?_
    exact w_X6_monthsOverdue_b38 C0 hf
def f_X6_monthsOverdue_b0 (E : zE) (p0 : Nat) (p1 : Int32) (h : zH) : Option (Int32 × zH) :=
  (pF h p0 1 2 (.int (0 : Int32))).bind fun h1 =>
  (cko h1 p0 1).bind fun _ =>
  bnd2 (f_X6_isFranchisee E p0 p1 h1) fun x6 h4 =>
  if x6 = 0 then (
    f_X6_monthsOverdue_b19 E p0 p1 p0 (1 : Int32) h4
  ) else (
    f_X6_monthsOverdue_b19 E p0 p1 p0 (0 : Int32) h4
  )
theorem w_X6_monthsOverdue_b0 (C0 : zCx p l e R s m args below meth c D B0 2 "FranchiseLedgerModel" cX6_monthsOverdue E 3 106 (Option.some Jvm.ClassFile.FieldType.int) "monthsOverdue") {r : Int32} {h' : zH} {p0 : Nat} {p1 : Int32} {h : zH} (hf : f_X6_monthsOverdue_b0 E p0 p1 h = some (r, h')) : zW p l e R s m args below meth c D B0 2 (zEnd D B0 R below args s (zoI r) h') h 0 [(0, .ref p0), (1, .int p1)] [] := by
  unfold f_X6_monthsOverdue_b0 at hf
  refine zr_aload_n C0 dX6_monthsOverdue_0 rfl 0 rfl ?_
  refine zr_iconst C0 (v := 0) dX6_monthsOverdue_1 (by decide) ?_
  obtain ⟨h1, e2, hf⟩ := zbind hf
  refine zr_put C0 pl_X6_50_X6 dX6_monthsOverdue_2 (fun h => by cases h) rfl rfl e2 ?_
  refine zr_aload_n C0 dX6_monthsOverdue_5 rfl 0 rfl ?_
  refine zr_aload_n C0 dX6_monthsOverdue_6 rfl 0 rfl ?_
  refine zr_iload_n C0 dX6_monthsOverdue_7 rfl 1 rfl ?_
  obtain ⟨_, e3, hf⟩ := zbind hf
  obtain ⟨x6, h4, e5, hf⟩ := zbind2 hf
  refine zr_callV_r C0 cv_X6_85_X6 rfl (zcko e3) (m_X6_isFranchisee C0.2.2.2.2.2.2.1 e5) (by decide) (by decide) rfl rfl (Nat.le_of_ble_eq_true rfl) dX6_monthsOverdue_8 rfl ?_
  refine zr_if_ne C0 (tgt := 18) dX6_monthsOverdue_11 (by decide) (fun c7 => ?_) (fun c7 => ?_)
  · have hf := zif_f c7 hf
    refine zr_iconst C0 (v := 0) dX6_monthsOverdue_18 (by decide) ?_
    exact w_X6_monthsOverdue_b19 C0 hf
  · have hf := zif_t c7 hf
    refine zr_iconst C0 (v := 1) dX6_monthsOverdue_14 (by decide) ?_
    refine zr_goto C0 (tgt := 19) dX6_monthsOverdue_15 (by decide) ?_
    exact w_X6_monthsOverdue_b19 C0 hf
def f_X6_monthsOverdue (E : zE) (p0 : Nat) (p1 : Int32) (h : zH) : Option (Int32 × zH) := f_X6_monthsOverdue_b0 E p0 p1 h
theorem m_X6_monthsOverdue {l : Launch} (hst : l.stackTraces = false) {D : zD} {B0 : Nat} {E : zE} {p0 : Nat} {p1 : Int32} {h h' : zH} {r : Int32} (hf : f_X6_monthsOverdue E p0 p1 h = some (r, h')) : zMet l yX6_monthsOverdue (ws_ yX6_monthsOverdue cX6_monthsOverdue 2 (Option.some Jvm.ClassFile.FieldType.int)) 3 106 D B0 E [.ref p0, .int p1] h (zoI r) h' := by
  unfold f_X6_monthsOverdue at hf
  refine zMet_of hst (by decide +kernel) rfl rfl (Nat.le_of_ble_eq_true rfl) (fun p e R s m below meth c C0 hno => ?_)
  show zW _ _ _ _ _ _ _ _ _ _ _ _ _ _ _ _ [(0, .ref p0), (1, .int p1)] []
  exact w_X6_monthsOverdue_b0 C0 hf
def f_X6_isOpenTransfer_b31 (E : zE) (s0 : Int32) (h : zH) : Option (Int32 × zH) :=
  (zgd .boolean s0).bind fun _ =>
  some (s0, h)
theorem w_X6_isOpenTransfer_b31 (C0 : zCx p l e R s m args below meth c D B0 2 "FranchiseLedgerModel" cX6_isOpenTransfer E 2 82 (Option.some Jvm.ClassFile.FieldType.boolean) "isOpenTransfer") {r : Int32} {h' : zH} {s0 : Int32} {h : zH} (hf : f_X6_isOpenTransfer_b31 E s0 h = some (r, h')) : zW p l e R s m args below meth c D B0 2 (zEnd D B0 R below args s (zoI r) h') h 31 [] [.int s0] := by
  unfold f_X6_isOpenTransfer_b31 at hf
  obtain ⟨_, e1, hf⟩ := zbind hf
  refine zretW hf ?_
  exact zr_iret C0 (ty := .boolean) rfl (zgd_n e1) dX6_isOpenTransfer_31 rfl
def f_X6_isOpenTransfer_b26 (E : zE) (h : zH) : Option (Int32 × zH) :=
  f_X6_isOpenTransfer_b31 E (1 : Int32) h
theorem w_X6_isOpenTransfer_b26 (C0 : zCx p l e R s m args below meth c D B0 2 "FranchiseLedgerModel" cX6_isOpenTransfer E 2 82 (Option.some Jvm.ClassFile.FieldType.boolean) "isOpenTransfer") {r : Int32} {h' : zH} {h : zH} (hf : f_X6_isOpenTransfer_b26 E  h = some (r, h')) : zW p l e R s m args below meth c D B0 2 (zEnd D B0 R below args s (zoI r) h') h 26 [] [] := by
  unfold f_X6_isOpenTransfer_b26 at hf
  refine zr_iconst C0 (v := 1) dX6_isOpenTransfer_26 (by decide) ?_
  refine zr_goto C0 (tgt := 31) dX6_isOpenTransfer_27 (by decide) ?_
  exact w_X6_isOpenTransfer_b31 C0 hf
def f_X6_isOpenTransfer_b0 (E : zE) (p0 : Nat) (p1 : Int32) (h : zH) : Option (Int32 × zH) :=
  (cko h p0 1).bind fun _ =>
  bnd2 (f_X6_of E p0 p1 (9 : Int32) h) fun x4 h2 =>
  if x4 = (1 : Int64) then (
    f_X6_isOpenTransfer_b26 E  h2
  ) else (
    (cko h2 p0 1).bind fun _ =>
    bnd2 (f_X6_of E p0 p1 (9 : Int32) h2) fun x9 h7 =>
    if x9 = (2 : Int64) then (
      f_X6_isOpenTransfer_b26 E  h7
    ) else (
      f_X6_isOpenTransfer_b31 E (0 : Int32) h7
    )
  )
theorem w_X6_isOpenTransfer_b0 (C0 : zCx p l e R s m args below meth c D B0 2 "FranchiseLedgerModel" cX6_isOpenTransfer E 2 82 (Option.some Jvm.ClassFile.FieldType.boolean) "isOpenTransfer") {r : Int32} {h' : zH} {p0 : Nat} {p1 : Int32} {h : zH} (hf : f_X6_isOpenTransfer_b0 E p0 p1 h = some (r, h')) : zW p l e R s m args below meth c D B0 2 (zEnd D B0 R below args s (zoI r) h') h 0 [(0, .ref p0), (1, .int p1)] [] := by
  unfold f_X6_isOpenTransfer_b0 at hf
  refine zr_aload_n C0 dX6_isOpenTransfer_0 rfl 0 rfl ?_
  refine zr_iload_n C0 dX6_isOpenTransfer_1 rfl 1 rfl ?_
  refine zr_bipush C0 (v := 9) dX6_isOpenTransfer_2 (by decide) ?_
  obtain ⟨_, e1, hf⟩ := zbind hf
  obtain ⟨x4, h2, e3, hf⟩ := zbind2 hf
  refine zr_callV_r C0 cv_X6_63_X6 rfl (zcko e1) (m_X6_of C0.2.2.2.2.2.2.1 e3) (by decide) (by decide) rfl rfl (Nat.le_of_ble_eq_true rfl) dX6_isOpenTransfer_4 rfl ?_
  refine zr_lconst C0 (v := 1) dX6_isOpenTransfer_7 (by decide) ?_
  refine zr_lcmp C0 dX6_isOpenTransfer_8 ?_
  refine zr_if_eq C0 (tgt := 26) dX6_isOpenTransfer_9 (by decide) (fun c5 => ?_) (fun c5 => ?_)
  · have hf := zif_t (zl_eq.mp c5) hf
    refine zr_sub [] rfl ?_
    exact w_X6_isOpenTransfer_b26 C0 hf
  · have hf := zif_f (zl_eqn.mp c5) hf
    refine zr_aload_n C0 dX6_isOpenTransfer_12 rfl 0 rfl ?_
    refine zr_iload_n C0 dX6_isOpenTransfer_13 rfl 1 rfl ?_
    refine zr_bipush C0 (v := 9) dX6_isOpenTransfer_14 (by decide) ?_
    obtain ⟨_, e6, hf⟩ := zbind hf
    obtain ⟨x9, h7, e8, hf⟩ := zbind2 hf
    refine zr_callV_r C0 cv_X6_63_X6 rfl (zcko e6) (m_X6_of C0.2.2.2.2.2.2.1 e8) (by decide) (by decide) rfl rfl (Nat.le_of_ble_eq_true rfl) dX6_isOpenTransfer_16 rfl ?_
    refine zr_ldc2 C0 (v := 2) q2903 dX6_isOpenTransfer_19 ?_
    refine zr_lcmp C0 dX6_isOpenTransfer_22 ?_
    refine zr_if_ne C0 (tgt := 30) dX6_isOpenTransfer_23 (by decide) (fun c10 => ?_) (fun c10 => ?_)
    · have hf := zif_f (zl_ne.mp c10) hf
      refine zr_iconst C0 (v := 0) dX6_isOpenTransfer_30 (by decide) ?_
      refine zr_sub [] rfl ?_
      exact w_X6_isOpenTransfer_b31 C0 hf
    · have hf := zif_t (zl_nen.mp c10) hf
      refine zr_sub [] rfl ?_
      exact w_X6_isOpenTransfer_b26 C0 hf
def f_X6_isOpenTransfer (E : zE) (p0 : Nat) (p1 : Int32) (h : zH) : Option (Int32 × zH) := f_X6_isOpenTransfer_b0 E p0 p1 h
theorem m_X6_isOpenTransfer {l : Launch} (hst : l.stackTraces = false) {D : zD} {B0 : Nat} {E : zE} {p0 : Nat} {p1 : Int32} {h h' : zH} {r : Int32} (hf : f_X6_isOpenTransfer E p0 p1 h = some (r, h')) : zMet l yX6_isOpenTransfer (ws_ yX6_isOpenTransfer cX6_isOpenTransfer 2 (Option.some Jvm.ClassFile.FieldType.boolean)) 2 82 D B0 E [.ref p0, .int p1] h (zoI r) h' := by
  unfold f_X6_isOpenTransfer at hf
  refine zMet_of hst (by decide +kernel) rfl rfl (Nat.le_of_ble_eq_true rfl) (fun p e R s m below meth c C0 hno => ?_)
  show zW _ _ _ _ _ _ _ _ _ _ _ _ _ _ _ _ [(0, .ref p0), (1, .int p1)] []
  exact w_X6_isOpenTransfer_b0 C0 hf
def f_X6_terminate_b48 (E : zE) (h : zH) : Option (Int32 × zH) :=
  some ((0 : Int32), h)
theorem w_X6_terminate_b48 (C0 : zCx p l e R s m args below meth c D B0 3 "FranchiseLedgerModel" cX6_terminate E 3 106 (Option.some Jvm.ClassFile.FieldType.boolean) "terminate") {r : Int32} {h' : zH} {h : zH} (hf : f_X6_terminate_b48 E  h = some (r, h')) : zW p l e R s m args below meth c D B0 3 (zEnd D B0 R below args s (zoI r) h') h 48 [] [] := by
  unfold f_X6_terminate_b48 at hf
  refine zr_iconst C0 (v := 0) dX6_terminate_48 (by decide) ?_
  refine zretW hf ?_
  exact zr_iret C0 (ty := .boolean) rfl (by decide) dX6_terminate_49 rfl
def f_X6_terminate_b168 (E : zE) (h : zH) : Option (Int32 × zH) :=
  some ((1 : Int32), h)
theorem w_X6_terminate_b168 (C0 : zCx p l e R s m args below meth c D B0 3 "FranchiseLedgerModel" cX6_terminate E 3 106 (Option.some Jvm.ClassFile.FieldType.boolean) "terminate") {r : Int32} {h' : zH} {h : zH} (hf : f_X6_terminate_b168 E  h = some (r, h')) : zW p l e R s m args below meth c D B0 3 (zEnd D B0 R below args s (zoI r) h') h 168 [] [] := by
  unfold f_X6_terminate_b168 at hf
  refine zr_iconst C0 (v := 1) dX6_terminate_168 (by decide) ?_
  refine zretW hf ?_
  exact zr_iret C0 (ty := .boolean) rfl (by decide) dX6_terminate_169 rfl
def f_X6_terminate_b144 (E : zE) (k108 : Nat → Int32 → Int32 → zH → Option (Int32 × zH)) (p0 : Nat) (p1 : Int32) (p2 : Int32) (h : zH) : Option (Int32 × zH) :=
  k108 p0 p1 (p2 + 1) h
theorem w_X6_terminate_b144 (C0 : zCx p l e R s m args below meth c D B0 3 "FranchiseLedgerModel" cX6_terminate E 3 106 (Option.some Jvm.ClassFile.FieldType.boolean) "terminate") {r : Int32} {h' : zH} {k108 : Nat → Int32 → Int32 → zH → Option (Int32 × zH)} (hk108 : ∀ (p0 : Nat) (p1 : Int32) (p2 : Int32) (h : zH), k108 p0 p1 p2 h = some (r, h') → zW p l e R s m args below meth c D B0 3 (zEnd D B0 R below args s (zoI r) h') h 108 [(0, .ref p0), (1, .int p1), (2, .int p2)] []) {p0 : Nat} {p1 : Int32} {p2 : Int32} {h : zH} (hf : f_X6_terminate_b144 E k108 p0 p1 p2 h = some (r, h')) : zW p l e R s m args below meth c D B0 3 (zEnd D B0 R below args s (zoI r) h') h 144 [(0, .ref p0), (1, .int p1), (2, .int p2)] [] := by
  unfold f_X6_terminate_b144 at hf
  refine zr_iinc (lv' := [(2, .int (p2 + 1)), (0, .ref p0), (1, .int p1)]) C0 dX6_terminate_144 2 rfl rfl (by decide) (by first | rfl | simp [zst1, zst2, zcat_rf]) ?_
  refine zr_goto C0 (tgt := 108) dX6_terminate_147 (by decide) ?_
  refine zr_sub [1, 2, 0] rfl ?_
  exact hk108 _ _ _ _ hf
def f_X6_terminate_l108 (E : zE) : Nat → Nat → Int32 → Int32 → zH → Option (Int32 × zH)
  | 0, _, _, _, _ => none
  | n + 1, p0, p1, p2, h =>
    if (900 : Int32) ≤ p2 then (
      (cko h p0 1).bind fun _ =>
      bnd2 (f_X6_isOpenTransfer E p0 p1 h) fun x5 h3 =>
      if x5 = 0 then (
        f_X6_terminate_b168 E  h3
      ) else (
        (cko h3 p0 1).bind fun _ =>
        bnd2 (f_X6_set E p0 p1 (9 : Int32) (3 : Int64) h3) fun x10 h8 =>
        f_X6_terminate_b168 E  h8
      )
    ) else (
      (gR h p0 1 0).bind fun x11 =>
      (dL h x11 ((250 : Int32) + p2)).bind fun x13 =>
      if x13 = (p1.toInt64) then (
        (gR h p0 1 0).bind fun x16 =>
        (sL h x16 ((250 : Int32) + p2) (-1 : Int64)).bind fun h18 =>
        f_X6_terminate_b144 E (f_X6_terminate_l108 E n) p0 p1 p2 h18
      ) else (
        f_X6_terminate_b144 E (f_X6_terminate_l108 E n) p0 p1 p2 h
      )
    )
theorem w_X6_terminate_l108 (C0 : zCx p l e R s m args below meth c D B0 3 "FranchiseLedgerModel" cX6_terminate E 3 106 (Option.some Jvm.ClassFile.FieldType.boolean) "terminate") {r : Int32} {h' : zH} : ∀ (n : Nat) (p0 : Nat) (p1 : Int32) (p2 : Int32) (h : zH), f_X6_terminate_l108 E n p0 p1 p2 h = some (r, h') → zW p l e R s m args below meth c D B0 3 (zEnd D B0 R below args s (zoI r) h') h 108 [(0, .ref p0), (1, .int p1), (2, .int p2)] [] := by
  intro n
  induction n with
  | zero =>
    intro p0 p1 p2 h hf
    unfold f_X6_terminate_l108 at hf
    cases hf
  | succ n ih =>
    intro p0 p1 p2 h hf
    unfold f_X6_terminate_l108 at hf
    refine zr_iload_n C0 dX6_terminate_108 rfl 2 rfl ?_
    refine zr_sipush C0 (v := 900) dX6_terminate_109 (by decide) ?_
    refine zr_icmp_ge C0 (tgt := 150) dX6_terminate_112 (by decide) (fun c1 => ?_) (fun c1 => ?_)
    · have hf := zif_t c1 hf
      refine zr_aload_n C0 dX6_terminate_150 rfl 0 rfl ?_
      refine zr_iload_n C0 dX6_terminate_151 rfl 1 rfl ?_
      obtain ⟨_, e2, hf⟩ := zbind hf
      obtain ⟨x5, h3, e4, hf⟩ := zbind2 hf
      refine zr_callV_r C0 cv_X6_246_X6 rfl (zcko e2) (m_X6_isOpenTransfer C0.2.2.2.2.2.2.1 e4) (by decide) (by decide) rfl rfl (Nat.le_of_ble_eq_true rfl) dX6_terminate_152 rfl ?_
      refine zr_if_eq C0 (tgt := 168) dX6_terminate_155 (by decide) (fun c6 => ?_) (fun c6 => ?_)
      · have hf := zif_t c6 hf
        refine zr_sub [] rfl ?_
        exact w_X6_terminate_b168 C0 hf
      · have hf := zif_f c6 hf
        refine zr_aload_n C0 dX6_terminate_158 rfl 0 rfl ?_
        refine zr_iload_n C0 dX6_terminate_159 rfl 1 rfl ?_
        refine zr_bipush C0 (v := 9) dX6_terminate_160 (by decide) ?_
        refine zr_ldc2 C0 (v := 3) q2947 dX6_terminate_162 ?_
        obtain ⟨_, e7, hf⟩ := zbind hf
        obtain ⟨x10, h8, e9, hf⟩ := zbind2 hf
        refine zr_callV_r C0 cv_X6_183_X6 rfl (zcko e7) (m_X6_set C0.2.2.2.2.2.2.1 e9) (by decide) (by decide) rfl rfl (Nat.le_of_ble_eq_true rfl) dX6_terminate_165 rfl ?_
        refine zr_sub [] rfl ?_
        exact w_X6_terminate_b168 C0 hf
    · have hf := zif_f c1 hf
      refine zr_aload_n C0 dX6_terminate_115 rfl 0 rfl ?_
      obtain ⟨x11, e12, hf⟩ := zbind hf
      refine zr_get C0 fl_X6_9_X6 dX6_terminate_116 (zgR e12) ?_
      refine zr_sipush C0 (v := 250) dX6_terminate_119 (by decide) ?_
      refine zr_iload_n C0 dX6_terminate_122 rfl 2 rfl ?_
      refine zr_iadd C0 dX6_terminate_123 ?_
      obtain ⟨x13, e14, hf⟩ := zbind hf
      refine zr_lald C0 dX6_terminate_124 e14 ?_
      refine zr_iload_n C0 dX6_terminate_125 rfl 1 rfl ?_
      refine zr_i2l C0 dX6_terminate_126 ?_
      refine zr_lcmp C0 dX6_terminate_127 ?_
      refine zr_if_ne C0 (tgt := 144) dX6_terminate_128 (by decide) (fun c15 => ?_) (fun c15 => ?_)
      · have hf := zif_f (zl_ne.mp c15) hf
        exact w_X6_terminate_b144 C0 ih hf
      · have hf := zif_t (zl_nen.mp c15) hf
        refine zr_aload_n C0 dX6_terminate_131 rfl 0 rfl ?_
        obtain ⟨x16, e17, hf⟩ := zbind hf
        refine zr_get C0 fl_X6_9_X6 dX6_terminate_132 (zgR e17) ?_
        refine zr_sipush C0 (v := 250) dX6_terminate_135 (by decide) ?_
        refine zr_iload_n C0 dX6_terminate_138 rfl 2 rfl ?_
        refine zr_iadd C0 dX6_terminate_139 ?_
        refine zr_ldc2 C0 (v := -1) q2540 dX6_terminate_140 ?_
        obtain ⟨h18, e19, hf⟩ := zbind hf
        refine zr_last C0 dX6_terminate_143 e19 ?_
        exact w_X6_terminate_b144 C0 ih hf
def f_X6_terminate_b100 (E : zE) (k59 : Nat → Int32 → Int32 → zH → Option (Int32 × zH)) (p0 : Nat) (p1 : Int32) (p2 : Int32) (h : zH) : Option (Int32 × zH) :=
  k59 p0 p1 (p2 + 1) h
theorem w_X6_terminate_b100 (C0 : zCx p l e R s m args below meth c D B0 3 "FranchiseLedgerModel" cX6_terminate E 3 106 (Option.some Jvm.ClassFile.FieldType.boolean) "terminate") {r : Int32} {h' : zH} {k59 : Nat → Int32 → Int32 → zH → Option (Int32 × zH)} (hk59 : ∀ (p0 : Nat) (p1 : Int32) (p2 : Int32) (h : zH), k59 p0 p1 p2 h = some (r, h') → zW p l e R s m args below meth c D B0 3 (zEnd D B0 R below args s (zoI r) h') h 59 [(0, .ref p0), (1, .int p1), (2, .int p2)] []) {p0 : Nat} {p1 : Int32} {p2 : Int32} {h : zH} (hf : f_X6_terminate_b100 E k59 p0 p1 p2 h = some (r, h')) : zW p l e R s m args below meth c D B0 3 (zEnd D B0 R below args s (zoI r) h') h 100 [(0, .ref p0), (1, .int p1), (2, .int p2)] [] := by
  unfold f_X6_terminate_b100 at hf
  refine zr_iinc (lv' := [(2, .int (p2 + 1)), (0, .ref p0), (1, .int p1)]) C0 dX6_terminate_100 2 rfl rfl (by decide) (by first | rfl | simp [zst1, zst2, zcat_rf]) ?_
  refine zr_goto C0 (tgt := 59) dX6_terminate_103 (by decide) ?_
  refine zr_sub [1, 2, 0] rfl ?_
  exact hk59 _ _ _ _ hf
def f_X6_terminate_l59 (E : zE) : Nat → Nat → Int32 → Int32 → zH → Option (Int32 × zH)
  | 0, _, _, _, _ => none
  | n + 1, p0, p1, p2, h =>
    (gR h p0 1 0).bind fun x1 =>
    (dL h x1 (3 : Int32)).bind fun x3 =>
    if x3 ≤ (p2.toInt64) then (
      f_X6_terminate_l108 E E.1 p0 p1 (0 : Int32) h
    ) else (
      (cko h p0 1).bind fun _ =>
      bnd2 (f_X6_ofOutlet E p0 p2 (0 : Int32) h) fun x9 h7 =>
      if x9 = (p1.toInt64) then (
        (gR h7 p0 1 0).bind fun x11 =>
        (sL h7 x11 (((186 : Int32) + ((4 : Int32) * p2)) + (0 : Int32)) (-1 : Int64)).bind fun h13 =>
        f_X6_terminate_b100 E (f_X6_terminate_l59 E n) p0 p1 p2 h13
      ) else (
        f_X6_terminate_b100 E (f_X6_terminate_l59 E n) p0 p1 p2 h7
      )
    )
theorem w_X6_terminate_l59 (C0 : zCx p l e R s m args below meth c D B0 3 "FranchiseLedgerModel" cX6_terminate E 3 106 (Option.some Jvm.ClassFile.FieldType.boolean) "terminate") {r : Int32} {h' : zH} : ∀ (n : Nat) (p0 : Nat) (p1 : Int32) (p2 : Int32) (h : zH), f_X6_terminate_l59 E n p0 p1 p2 h = some (r, h') → zW p l e R s m args below meth c D B0 3 (zEnd D B0 R below args s (zoI r) h') h 59 [(0, .ref p0), (1, .int p1), (2, .int p2)] [] := by
  intro n
  induction n with
  | zero =>
    intro p0 p1 p2 h hf
    unfold f_X6_terminate_l59 at hf
    cases hf
  | succ n ih =>
    intro p0 p1 p2 h hf
    unfold f_X6_terminate_l59 at hf
    refine zr_iload_n C0 dX6_terminate_59 rfl 2 rfl ?_
    refine zr_i2l C0 dX6_terminate_60 ?_
    refine zr_aload_n C0 dX6_terminate_61 rfl 0 rfl ?_
    obtain ⟨x1, e2, hf⟩ := zbind hf
    refine zr_get C0 fl_X6_9_X6 dX6_terminate_62 (zgR e2) ?_
    refine zr_iconst C0 (v := 3) dX6_terminate_65 (by decide) ?_
    obtain ⟨x3, e4, hf⟩ := zbind hf
    refine zr_lald C0 dX6_terminate_66 e4 ?_
    refine zr_lcmp C0 dX6_terminate_67 ?_
    refine zr_if_ge C0 (tgt := 106) dX6_terminate_68 (by decide) (fun c5 => ?_) (fun c5 => ?_)
    · have hf := zif_t (zl_ge.mp c5) hf
      refine zr_iconst C0 (v := 0) dX6_terminate_106 (by decide) ?_
      refine zr_istore_n (i := 2) (lv' := [(2, .int (0 : Int32)), (0, .ref p0), (1, .int p1)]) C0 dX6_terminate_107 rfl (by decide) (by first | rfl | simp [zst1, zst2, zcat_rf]) ?_
      refine zr_sub [1, 2, 0] rfl ?_
      exact w_X6_terminate_l108 C0 _ _ _ _ _ hf
    · have hf := zif_f (zl_gen.mp c5) hf
      refine zr_aload_n C0 dX6_terminate_71 rfl 0 rfl ?_
      refine zr_iload_n C0 dX6_terminate_72 rfl 2 rfl ?_
      refine zr_iconst C0 (v := 0) dX6_terminate_73 (by decide) ?_
      obtain ⟨_, e6, hf⟩ := zbind hf
      obtain ⟨x9, h7, e8, hf⟩ := zbind2 hf
      refine zr_callV_r C0 cv_X6_113_X6 rfl (zcko e6) (m_X6_ofOutlet C0.2.2.2.2.2.2.1 e8) (by decide) (by decide) rfl rfl (Nat.le_of_ble_eq_true rfl) dX6_terminate_74 rfl ?_
      refine zr_iload_n C0 dX6_terminate_77 rfl 1 rfl ?_
      refine zr_i2l C0 dX6_terminate_78 ?_
      refine zr_lcmp C0 dX6_terminate_79 ?_
      refine zr_if_ne C0 (tgt := 100) dX6_terminate_80 (by decide) (fun c10 => ?_) (fun c10 => ?_)
      · have hf := zif_f (zl_ne.mp c10) hf
        exact w_X6_terminate_b100 C0 ih hf
      · have hf := zif_t (zl_nen.mp c10) hf
        refine zr_aload_n C0 dX6_terminate_83 rfl 0 rfl ?_
        obtain ⟨x11, e12, hf⟩ := zbind hf
        refine zr_get C0 fl_X6_9_X6 dX6_terminate_84 (zgR e12) ?_
        refine zr_sipush C0 (v := 186) dX6_terminate_87 (by decide) ?_
        refine zr_iconst C0 (v := 4) dX6_terminate_90 (by decide) ?_
        refine zr_iload_n C0 dX6_terminate_91 rfl 2 rfl ?_
        refine zr_imul C0 dX6_terminate_92 ?_
        refine zr_iadd C0 dX6_terminate_93 ?_
        refine zr_iconst C0 (v := 0) dX6_terminate_94 (by decide) ?_
        refine zr_iadd C0 dX6_terminate_95 ?_
        refine zr_ldc2 C0 (v := -1) q2540 dX6_terminate_96 ?_
        obtain ⟨h13, e14, hf⟩ := zbind hf
        refine zr_last C0 dX6_terminate_99 e14 ?_
        exact w_X6_terminate_b100 C0 ih hf
def f_X6_terminate_b19 (E : zE) (p0 : Nat) (p1 : Int32) (s0 : Nat) (s1 : Int32) (h : zH) : Option (Int32 × zH) :=
  (cko h s0 1).bind fun _ =>
  bnd2 (f_X6_throwsIf E s0 s1 (1 : Int32) h) fun x4 h2 =>
  if x4 = 0 then (
    (cko h2 p0 1).bind fun _ =>
    bnd2 (f_X6_isActive E p0 p1 h2) fun x9 h7 =>
    if x9 = 0 then (
      f_X6_terminate_b48 E  h7
    ) else (
      (cko h7 p0 1).bind fun _ =>
      bnd2 (f_X6_of E p0 p1 (6 : Int32) h7) fun x14 h12 =>
      if (3 : Int64) ≤ x14 then (
        (cko h12 p0 1).bind fun _ =>
        bnd2 (f_X6_set E p0 p1 (3 : Int32) (1 : Int64) h12) fun x19 h17 =>
        f_X6_terminate_l59 E E.1 p0 p1 (0 : Int32) h17
      ) else (
        f_X6_terminate_b48 E  h12
      )
    )
  ) else (
    f_X6_terminate_b48 E  h2
  )
theorem w_X6_terminate_b19 (C0 : zCx p l e R s m args below meth c D B0 3 "FranchiseLedgerModel" cX6_terminate E 3 106 (Option.some Jvm.ClassFile.FieldType.boolean) "terminate") {r : Int32} {h' : zH} {p0 : Nat} {p1 : Int32} {s0 : Nat} {s1 : Int32} {h : zH} (hf : f_X6_terminate_b19 E p0 p1 s0 s1 h = some (r, h')) : zW p l e R s m args below meth c D B0 3 (zEnd D B0 R below args s (zoI r) h') h 19 [(0, .ref p0), (1, .int p1)] [.int s1, .ref s0] := by
  unfold f_X6_terminate_b19 at hf
  refine zr_iconst C0 (v := 1) dX6_terminate_19 (by decide) ?_
  obtain ⟨_, e1, hf⟩ := zbind hf
  obtain ⟨x4, h2, e3, hf⟩ := zbind2 hf
  refine zr_callV_r C0 cv_X6_81_X6 rfl (zcko e1) (m_X6_throwsIf C0.2.2.2.2.2.2.1 e3) (by decide) (by decide) rfl rfl (Nat.le_of_ble_eq_true rfl) dX6_terminate_20 rfl ?_
  refine zr_if_ne C0 (tgt := 48) dX6_terminate_23 (by decide) (fun c5 => ?_) (fun c5 => ?_)
  · have hf := zif_f c5 hf
    refine zr_sub [] rfl ?_
    exact w_X6_terminate_b48 C0 hf
  · have hf := zif_t c5 hf
    refine zr_aload_n C0 dX6_terminate_26 rfl 0 rfl ?_
    refine zr_iload_n C0 dX6_terminate_27 rfl 1 rfl ?_
    obtain ⟨_, e6, hf⟩ := zbind hf
    obtain ⟨x9, h7, e8, hf⟩ := zbind2 hf
    refine zr_callV_r C0 cv_X6_128_X6 rfl (zcko e6) (m_X6_isActive C0.2.2.2.2.2.2.1 e8) (by decide) (by decide) rfl rfl (Nat.le_of_ble_eq_true rfl) dX6_terminate_28 rfl ?_
    refine zr_if_eq C0 (tgt := 48) dX6_terminate_31 (by decide) (fun c10 => ?_) (fun c10 => ?_)
    · have hf := zif_t c10 hf
      refine zr_sub [] rfl ?_
      exact w_X6_terminate_b48 C0 hf
    · have hf := zif_f c10 hf
      refine zr_aload_n C0 dX6_terminate_34 rfl 0 rfl ?_
      refine zr_iload_n C0 dX6_terminate_35 rfl 1 rfl ?_
      refine zr_bipush C0 (v := 6) dX6_terminate_36 (by decide) ?_
      obtain ⟨_, e11, hf⟩ := zbind hf
      obtain ⟨x14, h12, e13, hf⟩ := zbind2 hf
      refine zr_callV_r C0 cv_X6_63_X6 rfl (zcko e11) (m_X6_of C0.2.2.2.2.2.2.1 e13) (by decide) (by decide) rfl rfl (Nat.le_of_ble_eq_true rfl) dX6_terminate_38 rfl ?_
      refine zr_ldc2 C0 (v := 3) q2947 dX6_terminate_41 ?_
      refine zr_lcmp C0 dX6_terminate_44 ?_
      refine zr_if_ge C0 (tgt := 50) dX6_terminate_45 (by decide) (fun c15 => ?_) (fun c15 => ?_)
      · have hf := zif_t (zl_ge.mp c15) hf
        refine zr_aload_n C0 dX6_terminate_50 rfl 0 rfl ?_
        refine zr_iload_n C0 dX6_terminate_51 rfl 1 rfl ?_
        refine zr_iconst C0 (v := 3) dX6_terminate_52 (by decide) ?_
        refine zr_lconst C0 (v := 1) dX6_terminate_53 (by decide) ?_
        obtain ⟨_, e16, hf⟩ := zbind hf
        obtain ⟨x19, h17, e18, hf⟩ := zbind2 hf
        refine zr_callV_r C0 cv_X6_183_X6 rfl (zcko e16) (m_X6_set C0.2.2.2.2.2.2.1 e18) (by decide) (by decide) rfl rfl (Nat.le_of_ble_eq_true rfl) dX6_terminate_54 rfl ?_
        refine zr_iconst C0 (v := 0) dX6_terminate_57 (by decide) ?_
        refine zr_istore_n (i := 2) (lv' := [(2, .int (0 : Int32)), (0, .ref p0), (1, .int p1)]) C0 dX6_terminate_58 rfl (by decide) (by first | rfl | simp [zst1, zst2, zcat_rf]) ?_
        refine zr_sub [1, 2, 0] rfl ?_
        exact w_X6_terminate_l59 C0 _ _ _ _ _ hf
      · have hf := zif_f (zl_gen.mp c15) hf
        refine zr_sub [] rfl ?_
        exact w_X6_terminate_b48 C0 hf
def f_X6_terminate_b0 (E : zE) (p0 : Nat) (p1 : Int32) (h : zH) : Option (Int32 × zH) :=
  (pF h p0 1 2 (.int (0 : Int32))).bind fun h1 =>
  (cko h1 p0 1).bind fun _ =>
  bnd2 (f_X6_isFranchisee E p0 p1 h1) fun x6 h4 =>
  if x6 = 0 then (
    f_X6_terminate_b19 E p0 p1 p0 (1 : Int32) h4
  ) else (
    f_X6_terminate_b19 E p0 p1 p0 (0 : Int32) h4
  )
theorem w_X6_terminate_b0 (C0 : zCx p l e R s m args below meth c D B0 3 "FranchiseLedgerModel" cX6_terminate E 3 106 (Option.some Jvm.ClassFile.FieldType.boolean) "terminate") {r : Int32} {h' : zH} {p0 : Nat} {p1 : Int32} {h : zH} (hf : f_X6_terminate_b0 E p0 p1 h = some (r, h')) : zW p l e R s m args below meth c D B0 3 (zEnd D B0 R below args s (zoI r) h') h 0 [(0, .ref p0), (1, .int p1)] [] := by
  unfold f_X6_terminate_b0 at hf
  refine zr_aload_n C0 dX6_terminate_0 rfl 0 rfl ?_
  refine zr_iconst C0 (v := 0) dX6_terminate_1 (by decide) ?_
  obtain ⟨h1, e2, hf⟩ := zbind hf
  refine zr_put C0 pl_X6_50_X6 dX6_terminate_2 (fun h => by cases h) rfl rfl e2 ?_
  refine zr_aload_n C0 dX6_terminate_5 rfl 0 rfl ?_
  refine zr_aload_n C0 dX6_terminate_6 rfl 0 rfl ?_
  refine zr_iload_n C0 dX6_terminate_7 rfl 1 rfl ?_
  obtain ⟨_, e3, hf⟩ := zbind hf
  obtain ⟨x6, h4, e5, hf⟩ := zbind2 hf
  refine zr_callV_r C0 cv_X6_85_X6 rfl (zcko e3) (m_X6_isFranchisee C0.2.2.2.2.2.2.1 e5) (by decide) (by decide) rfl rfl (Nat.le_of_ble_eq_true rfl) dX6_terminate_8 rfl ?_
  refine zr_if_ne C0 (tgt := 18) dX6_terminate_11 (by decide) (fun c7 => ?_) (fun c7 => ?_)
  · have hf := zif_f c7 hf
    refine zr_iconst C0 (v := 0) dX6_terminate_18 (by decide) ?_
    exact w_X6_terminate_b19 C0 hf
  · have hf := zif_t c7 hf
    refine zr_iconst C0 (v := 1) dX6_terminate_14 (by decide) ?_
    refine zr_goto C0 (tgt := 19) dX6_terminate_15 (by decide) ?_
    exact w_X6_terminate_b19 C0 hf
def f_X6_terminate (E : zE) (p0 : Nat) (p1 : Int32) (h : zH) : Option (Int32 × zH) := f_X6_terminate_b0 E p0 p1 h
theorem m_X6_terminate {l : Launch} (hst : l.stackTraces = false) {D : zD} {B0 : Nat} {E : zE} {p0 : Nat} {p1 : Int32} {h h' : zH} {r : Int32} (hf : f_X6_terminate E p0 p1 h = some (r, h')) : zMet l yX6_terminate (ws_ yX6_terminate cX6_terminate 3 (Option.some Jvm.ClassFile.FieldType.boolean)) 3 106 D B0 E [.ref p0, .int p1] h (zoI r) h' := by
  unfold f_X6_terminate at hf
  refine zMet_of hst (by decide +kernel) rfl rfl (Nat.le_of_ble_eq_true rfl) (fun p e R s m below meth c C0 hno => ?_)
  show zW _ _ _ _ _ _ _ _ _ _ _ _ _ _ _ _ [(0, .ref p0), (1, .int p1)] []
  exact w_X6_terminate_b0 C0 hf
end
