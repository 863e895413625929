/-! walks by program: by the generator -/
set_option maxRecDepth 100000
section
variable {p : Program} {l : Launch} {e : Env} {R : Room} {s : State} {m : MethodId} {args : Array Value} {below : List Frame} {meth : Method} {c : Code} {D : zD} {B0 : Nat} {E : zE}
theorem cv_X0_7_X1 : zCV "FranchiseLedgerLaw" 7 "FranchiseLedger" yX1_runJournal cX1_runJournal 4 (Option.some Jvm.ClassFile.FieldType.int) 1 := ⟨q1744, q1745, q1746, q129, q1747, rfl, ⟨by decide +kernel, by decide +kernel, by decide +kernel⟩⟩
theorem cv_X0_15_X1 : zCV "FranchiseLedgerLaw" 15 "FranchiseLedger" yX1_owner cX1_owner 3 (Option.some Jvm.ClassFile.FieldType.int) 2 := ⟨q2007, q2008, q2009, q129, q2010, rfl, ⟨by decide +kernel, by decide +kernel, by decide +kernel⟩⟩
theorem cv_X0_19_X1 : zCV "FranchiseLedgerLaw" 19 "FranchiseLedger" yX1_area cX1_area 2 (Option.some Jvm.ClassFile.FieldType.int) 1 := ⟨q2015, q2016, q2017, q129, q2018, rfl, ⟨by decide +kernel, by decide +kernel, by decide +kernel⟩⟩
theorem cv_X0_24_X1 : zCV "FranchiseLedgerLaw" 24 "FranchiseLedger" yX1_perimeter cX1_perimeter 2 (Option.some Jvm.ClassFile.FieldType.int) 1 := ⟨q2026, q2027, q2028, q129, q2029, rfl, ⟨by decide +kernel, by decide +kernel, by decide +kernel⟩⟩
theorem cv_X0_27_X1 : zCV "FranchiseLedgerLaw" 27 "FranchiseLedger" yX1_border cX1_border 3 (Option.some Jvm.ClassFile.FieldType.int) 2 := ⟨q2045, q2046, q2047, q129, q2048, rfl, ⟨by decide +kernel, by decide +kernel, by decide +kernel⟩⟩
theorem cv_X0_30_X1 : zCV "FranchiseLedgerLaw" 30 "FranchiseLedger" yX1_isConnected cX1_isConnected 2 (Option.some Jvm.ClassFile.FieldType.boolean) 1 := ⟨q2056, q2057, q2058, q129, q2059, rfl, ⟨by decide +kernel, by decide +kernel, by decide +kernel⟩⟩
theorem cv_X0_34_X1 : zCV "FranchiseLedgerLaw" 34 "FranchiseLedger" yX1_distance cX1_distance 4 (Option.some Jvm.ClassFile.FieldType.int) 3 := ⟨q2072, q2073, q2074, q129, q2075, rfl, ⟨by decide +kernel, by decide +kernel, by decide +kernel⟩⟩
theorem cv_X0_38_X1 : zCV "FranchiseLedgerLaw" 38 "FranchiseLedger" yX1_cede cX1_cede 10 (Option.some Jvm.ClassFile.FieldType.int) 6 := ⟨q2092, q2093, q2094, q129, q2095, rfl, ⟨by decide +kernel, by decide +kernel, by decide +kernel⟩⟩
theorem cv_X0_42_X1 : zCV "FranchiseLedgerLaw" 42 "FranchiseLedger" yX1_outletOwner cX1_outletOwner 2 (Option.some Jvm.ClassFile.FieldType.int) 1 := ⟨q2109, q2110, q2111, q129, q2112, rfl, ⟨by decide +kernel, by decide +kernel, by decide +kernel⟩⟩
theorem cv_X0_45_X1 : zCV "FranchiseLedgerLaw" 45 "FranchiseLedger" yX1_outletCell cX1_outletCell 2 (Option.some Jvm.ClassFile.FieldType.int) 1 := ⟨q2116, q2117, q2118, q129, q2119, rfl, ⟨by decide +kernel, by decide +kernel, by decide +kernel⟩⟩
theorem cv_X0_48_X1 : zCV "FranchiseLedgerLaw" 48 "FranchiseLedger" yX1_openOutlet cX1_openOutlet 6 (Option.some Jvm.ClassFile.FieldType.int) 3 := ⟨q2126, q2127, q2128, q129, q2129, rfl, ⟨by decide +kernel, by decide +kernel, by decide +kernel⟩⟩
theorem cv_X0_51_X1 : zCV "FranchiseLedgerLaw" 51 "FranchiseLedger" yX1_bestSite cX1_bestSite 6 (Option.some Jvm.ClassFile.FieldType.int) 1 := ⟨q2136, q2137, q2138, q129, q2139, rfl, ⟨by decide +kernel, by decide +kernel, by decide +kernel⟩⟩
theorem cv_X0_54_X1 : zCV "FranchiseLedgerLaw" 54 "FranchiseLedger" yX1_coverage cX1_coverage 5 (Option.some Jvm.ClassFile.FieldType.int) 2 := ⟨q2149, q2150, q2151, q129, q2152, rfl, ⟨by decide +kernel, by decide +kernel, by decide +kernel⟩⟩
theorem cv_X0_57_X1 : zCV "FranchiseLedgerLaw" 57 "FranchiseLedger" yX1_rivalCells cX1_rivalCells 5 (Option.some Jvm.ClassFile.FieldType.int) 2 := ⟨q2157, q2158, q2159, q129, q2160, rfl, ⟨by decide +kernel, by decide +kernel, by decide +kernel⟩⟩
theorem cv_X0_60_X1 : zCV "FranchiseLedgerLaw" 60 "FranchiseLedger" yX1_halvingLine cX1_halvingLine 8 (Option.some Jvm.ClassFile.FieldType.int) 1 := ⟨q2164, q2165, q2166, q129, q2167, rfl, ⟨by decide +kernel, by decide +kernel, by decide +kernel⟩⟩
theorem cv_X0_63_X1 : zCV "FranchiseLedgerLaw" 63 "FranchiseLedger" yX1_royalty cX1_royalty 4 (Option.some Jvm.ClassFile.FieldType.long) 2 := ⟨q2176, q2177, q2178, q129, q2179, rfl, ⟨by decide +kernel, by decide +kernel, by decide +kernel⟩⟩
theorem cv_X0_67_X1 : zCV "FranchiseLedgerLaw" 67 "FranchiseLedger" yX1_planOf cX1_planOf 2 (Option.some Jvm.ClassFile.FieldType.int) 1 := ⟨q2189, q2190, q2191, q129, q2192, rfl, ⟨by decide +kernel, by decide +kernel, by decide +kernel⟩⟩
theorem cv_X0_70_X1 : zCV "FranchiseLedgerLaw" 70 "FranchiseLedger" yX1_setPlan cX1_setPlan 4 (Option.some Jvm.ClassFile.FieldType.int) 2 := ⟨q2196, q2197, q2198, q129, q2199, rfl, ⟨by decide +kernel, by decide +kernel, by decide +kernel⟩⟩
theorem cv_X0_73_X1 : zCV "FranchiseLedgerLaw" 73 "FranchiseLedger" yX1_cheapestPlan cX1_cheapestPlan 2 (Option.some Jvm.ClassFile.FieldType.int) 1 := ⟨q2203, q2204, q2205, q129, q2206, rfl, ⟨by decide +kernel, by decide +kernel, by decide +kernel⟩⟩
theorem cv_X0_76_X1 : zCV "FranchiseLedgerLaw" 76 "FranchiseLedger" yX1_reportSales cX1_reportSales 7 (Option.some Jvm.ClassFile.FieldType.long) 2 := ⟨q2220, q1820, q1821, q129, q1822, rfl, ⟨by decide +kernel, by decide +kernel, by decide +kernel⟩⟩
theorem cv_X0_81_X1 : zCV "FranchiseLedgerLaw" 81 "FranchiseLedger" yX1_deliver cX1_deliver 8 (Option.some Jvm.ClassFile.FieldType.long) 4 := ⟨q2224, q1865, q1866, q129, q1867, rfl, ⟨by decide +kernel, by decide +kernel, by decide +kernel⟩⟩
theorem cv_X0_85_X1 : zCV "FranchiseLedgerLaw" 85 "FranchiseLedger" yX1_sales cX1_sales 2 (Option.some Jvm.ClassFile.FieldType.long) 1 := ⟨q2228, q2229, q2230, q129, q2231, rfl, ⟨by decide +kernel, by decide +kernel, by decide +kernel⟩⟩
theorem cv_X0_89_X1 : zCV "FranchiseLedgerLaw" 89 "FranchiseLedger" yX1_salesOf cX1_salesOf 4 (Option.some Jvm.ClassFile.FieldType.long) 2 := ⟨q2235, q2236, q2237, q129, q2238, rfl, ⟨by decide +kernel, by decide +kernel, by decide +kernel⟩⟩
theorem cv_X0_93_X1 : zCV "FranchiseLedgerLaw" 93 "FranchiseLedger" yX1_creditDue cX1_creditDue 3 (Option.some Jvm.ClassFile.FieldType.long) 2 := ⟨q2246, q2247, q2248, q129, q2249, rfl, ⟨by decide +kernel, by decide +kernel, by decide +kernel⟩⟩
theorem cv_X0_96_X1 : zCV "FranchiseLedgerLaw" 96 "FranchiseLedger" yX1_closeMonth cX1_closeMonth 1 (Option.some Jvm.ClassFile.FieldType.int) 0 := ⟨q2254, q1918, q1919, q129, q1920, rfl, ⟨by decide +kernel, by decide +kernel, by decide +kernel⟩⟩
theorem cv_X0_100_X1 : zCV "FranchiseLedgerLaw" 100 "FranchiseLedger" yX1_invoice cX1_invoice 5 (Option.some Jvm.ClassFile.FieldType.long) 3 := ⟨q2258, q2259, q2260, q129, q2261, rfl, ⟨by decide +kernel, by decide +kernel, by decide +kernel⟩⟩
theorem cv_X0_104_X1 : zCV "FranchiseLedgerLaw" 104 "FranchiseLedger" yX1_predictDue cX1_predictDue 3 (Option.some Jvm.ClassFile.FieldType.long) 2 := ⟨q2266, q2267, q2268, q129, q2269, rfl, ⟨by decide +kernel, by decide +kernel, by decide +kernel⟩⟩
theorem cv_X0_107_X1 : zCV "FranchiseLedgerLaw" 107 "FranchiseLedger" yX1_balance cX1_balance 2 (Option.some Jvm.ClassFile.FieldType.long) 1 := ⟨q2275, q2276, q2277, q129, q2278, rfl, ⟨by decide +kernel, by decide +kernel, by decide +kernel⟩⟩
theorem cv_X0_110_X1 : zCV "FranchiseLedgerLaw" 110 "FranchiseLedger" yX1_pay cX1_pay 5 (Option.some Jvm.ClassFile.FieldType.long) 2 := ⟨q2282, q1887, q1888, q129, q1889, rfl, ⟨by decide +kernel, by decide +kernel, by decide +kernel⟩⟩
theorem cv_X0_113_X1 : zCV "FranchiseLedgerLaw" 113 "FranchiseLedger" yX1_monthsOverdue cX1_monthsOverdue 2 (Option.some Jvm.ClassFile.FieldType.int) 1 := ⟨q2286, q2287, q2288, q129, q2289, rfl, ⟨by decide +kernel, by decide +kernel, by decide +kernel⟩⟩
theorem cv_X0_116_X1 : zCV "FranchiseLedgerLaw" 116 "FranchiseLedger" yX1_payOff cX1_payOff 7 (Option.some Jvm.ClassFile.FieldType.int) 2 := ⟨q2293, q2294, q2295, q129, q2296, rfl, ⟨by decide +kernel, by decide +kernel, by decide +kernel⟩⟩
theorem cv_X0_120_X1 : zCV "FranchiseLedgerLaw" 120 "FranchiseLedger" yX1_terminate cX1_terminate 3 (Option.some Jvm.ClassFile.FieldType.boolean) 1 := ⟨q2300, q2301, q2302, q129, q2303, rfl, ⟨by decide +kernel, by decide +kernel, by decide +kernel⟩⟩
theorem cv_X0_123_X1 : zCV "FranchiseLedgerLaw" 123 "FranchiseLedger" yX1_status cX1_status 2 (Option.some Jvm.ClassFile.FieldType.int) 1 := ⟨q2315, q2316, q2317, q129, q2318, rfl, ⟨by decide +kernel, by decide +kernel, by decide +kernel⟩⟩
theorem cv_X0_126_X1 : zCV "FranchiseLedgerLaw" 126 "FranchiseLedger" yX1_contributions cX1_contributions 2 (Option.some Jvm.ClassFile.FieldType.long) 1 := ⟨q2322, q2323, q2324, q129, q2325, rfl, ⟨by decide +kernel, by decide +kernel, by decide +kernel⟩⟩
theorem cv_X0_129_X1 : zCV "FranchiseLedgerLaw" 129 "FranchiseLedger" yX1_spent cX1_spent 2 (Option.some Jvm.ClassFile.FieldType.long) 1 := ⟨q2329, q2330, q2331, q129, q2332, rfl, ⟨by decide +kernel, by decide +kernel, by decide +kernel⟩⟩
theorem cv_X0_132_X1 : zCV "FranchiseLedgerLaw" 132 "FranchiseLedger" yX1_campaign cX1_campaign 3 (Option.some Jvm.ClassFile.FieldType.boolean) 1 := ⟨q2337, q1905, q1906, q129, q1907, rfl, ⟨by decide +kernel, by decide +kernel, by decide +kernel⟩⟩
theorem cv_X0_136_X1 : zCV "FranchiseLedgerLaw" 136 "FranchiseLedger" yX1_grant cX1_grant 5 (Option.some Jvm.ClassFile.FieldType.boolean) 2 := ⟨q2341, q1896, q1897, q129, q1898, rfl, ⟨by decide +kernel, by decide +kernel, by decide +kernel⟩⟩
theorem cv_X0_140_X1 : zCV "FranchiseLedgerLaw" 140 "FranchiseLedger" yX1_allowance cX1_allowance 2 (Option.some Jvm.ClassFile.FieldType.long) 1 := ⟨q2345, q2346, q2347, q129, q2348, rfl, ⟨by decide +kernel, by decide +kernel, by decide +kernel⟩⟩
theorem cv_X0_143_X1 : zCV "FranchiseLedgerLaw" 143 "FranchiseLedger" yX1_nationalShare cX1_nationalShare 2 (Option.some Jvm.ClassFile.FieldType.long) 1 := ⟨q2352, q2353, q2354, q129, q2355, rfl, ⟨by decide +kernel, by decide +kernel, by decide +kernel⟩⟩
theorem cv_X0_146_X1 : zCV "FranchiseLedgerLaw" 146 "FranchiseLedger" yX1_requestTransfer cX1_requestTransfer 6 (Option.some Jvm.ClassFile.FieldType.boolean) 3 := ⟨q2367, q2368, q2369, q129, q2370, rfl, ⟨by decide +kernel, by decide +kernel, by decide +kernel⟩⟩
theorem cv_X0_150_X1 : zCV "FranchiseLedgerLaw" 150 "FranchiseLedger" yX1_vote cX1_vote 5 (Option.some Jvm.ClassFile.FieldType.int) 3 := ⟨q2380, q1909, q1910, q129, q1911, rfl, ⟨by decide +kernel, by decide +kernel, by decide +kernel⟩⟩
theorem cv_X0_154_X1 : zCV "FranchiseLedgerLaw" 154 "FranchiseLedger" yX1_exercise cX1_exercise 3 (Option.some Jvm.ClassFile.FieldType.boolean) 1 := ⟨q2384, q2385, q2386, q129, q2387, rfl, ⟨by decide +kernel, by decide +kernel, by decide +kernel⟩⟩
theorem cv_X0_157_X1 : zCV "FranchiseLedgerLaw" 157 "FranchiseLedger" yX1_withdraw cX1_withdraw 3 (Option.some Jvm.ClassFile.FieldType.boolean) 1 := ⟨q2391, q2392, q2393, q129, q2394, rfl, ⟨by decide +kernel, by decide +kernel, by decide +kernel⟩⟩
theorem cv_X0_160_X1 : zCV "FranchiseLedgerLaw" 160 "FranchiseLedger" yX1_transferState cX1_transferState 2 (Option.some Jvm.ClassFile.FieldType.int) 1 := ⟨q2398, q2399, q2400, q129, q2401, rfl, ⟨by decide +kernel, by decide +kernel, by decide +kernel⟩⟩
theorem cv_X0_163_X1 : zCV "FranchiseLedgerLaw" 163 "FranchiseLedger" yX1_transferWait cX1_transferWait 3 (Option.some Jvm.ClassFile.FieldType.int) 1 := ⟨q2405, q2406, q2407, q129, q2408, rfl, ⟨by decide +kernel, by decide +kernel, by decide +kernel⟩⟩
theorem cv_X0_166_X1 : zCV "FranchiseLedgerLaw" 166 "FranchiseLedger" yX1_generation cX1_generation 2 (Option.some Jvm.ClassFile.FieldType.int) 1 := ⟨q2413, q2414, q2415, q129, q2416, rfl, ⟨by decide +kernel, by decide +kernel, by decide +kernel⟩⟩
theorem cv_X0_169_X1 : zCV "FranchiseLedgerLaw" 169 "FranchiseLedger" yX1_worth cX1_worth 2 (Option.some Jvm.ClassFile.FieldType.int) 1 := ⟨q2420, q2421, q2422, q129, q2423, rfl, ⟨by decide +kernel, by decide +kernel, by decide +kernel⟩⟩
theorem cv_X0_172_X1 : zCV "FranchiseLedgerLaw" 172 "FranchiseLedger" yX1_formatInvoice cX1_formatInvoice 5 (Option.some Jvm.ClassFile.FieldType.int) 2 := ⟨q2427, q2428, q2429, q129, q2430, rfl, ⟨by decide +kernel, by decide +kernel, by decide +kernel⟩⟩
theorem nw_X1 : ∀ j, j < 10 → defaultValue (tyX1 j) = vp_V [.null, .null, .null, .null, .null, .null, .null, .int 0, .int 0, .int 0] j := by
  intro j hj
  rcases (show j = 0 ∨ j = 1 ∨ j = 2 ∨ j = 3 ∨ j = 4 ∨ j = 5 ∨ j = 6 ∨ j = 7 ∨ j = 8 ∨ j = 9 by omega) with rfl | rfl | rfl | rfl | rfl | rfl | rfl | rfl | rfl | rfl <;> rfl
theorem cv_X0_175 : zCI "FranchiseLedgerLaw" 175 yX1_init cX1_init 1 0 := ⟨q178, q179, q129, q180, rfl, ⟨by decide +kernel, by decide +kernel, by decide +kernel⟩⟩
theorem nw_X6 : ∀ j, j < 22 → defaultValue (tyX6 j) = vp_V [.null, .null, .int 0, .null, .null, .null, .null, .int 0, .null, .int 0, .int 0, .int 0, .int 0, .int 0, .int 0, .int 0, .long 0, .null, .null, .int 0, .int 0, .int 0] j := by
  intro j hj
  rcases (show j = 0 ∨ j = 1 ∨ j = 2 ∨ j = 3 ∨ j = 4 ∨ j = 5 ∨ j = 6 ∨ j = 7 ∨ j = 8 ∨ j = 9 ∨ j = 10 ∨ j = 11 ∨ j = 12 ∨ j = 13 ∨ j = 14 ∨ j = 15 ∨ j = 16 ∨ j = 17 ∨ j = 18 ∨ j = 19 ∨ j = 20 ∨ j = 21 by omega) with rfl | rfl | rfl | rfl | rfl | rfl | rfl | rfl | rfl | rfl | rfl | rfl | rfl | rfl | rfl | rfl | rfl | rfl | rfl | rfl | rfl | rfl <;> rfl
theorem cv_X0_178 : zCI "FranchiseLedgerLaw" 178 yX6_init cX6_init 1 0 := ⟨q2532, q2533, q156, q2534, rfl, ⟨by decide +kernel, by decide +kernel, by decide +kernel⟩⟩
theorem cv_X0_179_X1 : zCV "FranchiseLedgerLaw" 179 "FranchiseLedger" yX1_appendInput cX1_appendInput 6 (Option.some Jvm.ClassFile.FieldType.int) 5 := ⟨q1105, q1106, q1107, q129, q1108, rfl, ⟨by decide +kernel, by decide +kernel, by decide +kernel⟩⟩
theorem cv_X0_183_X6 : zCV "FranchiseLedgerLaw" 183 "FranchiseLedgerModel" yX6_appendInput cX6_appendInput 6 (Option.some Jvm.ClassFile.FieldType.int) 5 := ⟨q3067, q3068, q3069, q156, q3070, rfl, ⟨by decide +kernel, by decide +kernel, by decide +kernel⟩⟩
theorem cv_X0_184_X1 : zCV "FranchiseLedgerLaw" 184 "FranchiseLedger" yX1_truncateInput cX1_truncateInput 2 (Option.some Jvm.ClassFile.FieldType.int) 1 := ⟨q1113, q1114, q1115, q129, q1116, rfl, ⟨by decide +kernel, by decide +kernel, by decide +kernel⟩⟩
theorem cv_X0_187_X6 : zCV "FranchiseLedgerLaw" 187 "FranchiseLedgerModel" yX6_truncateInput cX6_truncateInput 2 (Option.some Jvm.ClassFile.FieldType.int) 1 := ⟨q3075, q3076, q3077, q156, q3078, rfl, ⟨by decide +kernel, by decide +kernel, by decide +kernel⟩⟩
theorem cv_X0_188_X1 : zCVX "FranchiseLedgerLaw" 188 "FranchiseLedger" yX1_load cX1_load 3 (Option.some Jvm.ClassFile.FieldType.int) [((9 : Nat), (13 : Nat), (16 : Nat), (498 : Nat))] 0 := ⟨q1605, q1606, q1607, q129, q1608, rfl, ⟨by decide +kernel, by decide +kernel, by decide +kernel⟩⟩
theorem cv_X0_191_X6 : zCV "FranchiseLedgerLaw" 191 "FranchiseLedgerModel" yX6_load cX6_load 2 (Option.some Jvm.ClassFile.FieldType.int) 0 := ⟨q3087, q3088, q3089, q156, q3090, rfl, ⟨by decide +kernel, by decide +kernel, by decide +kernel⟩⟩
theorem cv_X0_192_X1 : zCV "FranchiseLedgerLaw" 192 "FranchiseLedger" yX1_errorCode cX1_errorCode 1 (Option.some Jvm.ClassFile.FieldType.int) 0 := ⟨q1732, q1733, q1734, q129, q1735, rfl, ⟨by decide +kernel, by decide +kernel, by decide +kernel⟩⟩
theorem cv_X0_195_X6 : zCV "FranchiseLedgerLaw" 195 "FranchiseLedgerModel" yX6_errorCode cX6_errorCode 1 (Option.some Jvm.ClassFile.FieldType.int) 0 := ⟨q3079, q3080, q3081, q156, q3082, rfl, ⟨by decide +kernel, by decide +kernel, by decide +kernel⟩⟩
theorem cv_X0_196_X1 : zCV "FranchiseLedgerLaw" 196 "FranchiseLedger" yX1_errorPosition cX1_errorPosition 1 (Option.some Jvm.ClassFile.FieldType.int) 0 := ⟨q1736, q1737, q1738, q129, q1739, rfl, ⟨by decide +kernel, by decide +kernel, by decide +kernel⟩⟩
theorem cv_X0_199_X6 : zCV "FranchiseLedgerLaw" 199 "FranchiseLedgerModel" yX6_errorPosition cX6_errorPosition 1 (Option.some Jvm.ClassFile.FieldType.int) 0 := ⟨q3083, q3084, q3085, q156, q3086, rfl, ⟨by decide +kernel, by decide +kernel, by decide +kernel⟩⟩
theorem cv_X0_200_X1 : zCV "FranchiseLedgerLaw" 200 "FranchiseLedger" yX1_find cX1_find 3 (Option.some Jvm.ClassFile.FieldType.int) 0 := ⟨q1117, q1118, q1119, q129, q1120, rfl, ⟨by decide +kernel, by decide +kernel, by decide +kernel⟩⟩
theorem cv_X0_203_X6 : zCV "FranchiseLedgerLaw" 203 "FranchiseLedgerModel" yX6_find cX6_find 5 (Option.some Jvm.ClassFile.FieldType.int) 0 := ⟨q3231, q3232, q3233, q156, q3234, rfl, ⟨by decide +kernel, by decide +kernel, by decide +kernel⟩⟩
theorem cv_X0_204_X1 : zCVX "FranchiseLedgerLaw" 204 "FranchiseLedger" yX1_loadJournal cX1_loadJournal 3 (Option.some Jvm.ClassFile.FieldType.int) [((9 : Nat), (21 : Nat), (24 : Nat), (498 : Nat))] 0 := ⟨q1324, q1325, q1326, q129, q1327, rfl, ⟨by decide +kernel, by decide +kernel, by decide +kernel⟩⟩
theorem cv_X0_207_X6 : zCV "FranchiseLedgerLaw" 207 "FranchiseLedgerModel" yX6_loadJournal cX6_loadJournal 3 (Option.some Jvm.ClassFile.FieldType.int) 0 := ⟨q3177, q3178, q3179, q156, q3180, rfl, ⟨by decide +kernel, by decide +kernel, by decide +kernel⟩⟩
theorem cv_X0_208 : zCSX "FranchiseLedgerLaw" 208 yX0_runJournal cX0_runJournal 4 (Option.some Jvm.ClassFile.FieldType.int) [((0 : Nat), (9 : Nat), (12 : Nat), (13 : Nat))] 3 := ⟨q1740, q1741, q128, q1742, ⟨by decide +kernel, by decide +kernel, by decide +kernel⟩⟩
theorem cv_X0_213_X6 : zCV "FranchiseLedgerLaw" 213 "FranchiseLedgerModel" yX6_runJournal cX6_runJournal 4 (Option.some Jvm.ClassFile.FieldType.int) 1 := ⟨q3207, q3208, q3209, q156, q3210, rfl, ⟨by decide +kernel, by decide +kernel, by decide +kernel⟩⟩
theorem cv_X0_214_X6 : zCV "FranchiseLedgerLaw" 214 "FranchiseLedgerModel" yX6_thrown cX6_thrown 1 (Option.some Jvm.ClassFile.FieldType.int) 0 := ⟨q2608, q2609, q2610, q156, q2611, rfl, ⟨by decide +kernel, by decide +kernel, by decide +kernel⟩⟩
theorem cv_X0_217_X1 : zCV "FranchiseLedgerLaw" 217 "FranchiseLedger" yX1_count cX1_count 2 (Option.some Jvm.ClassFile.FieldType.int) 1 := ⟨q724, q725, q726, q129, q727, rfl, ⟨by decide +kernel, by decide +kernel, by decide +kernel⟩⟩
theorem cv_X0_220_X6 : zCV "FranchiseLedgerLaw" 220 "FranchiseLedgerModel" yX6_count cX6_count 2 (Option.some Jvm.ClassFile.FieldType.int) 1 := ⟨q2627, q2628, q2629, q156, q2630, rfl, ⟨by decide +kernel, by decide +kernel, by decide +kernel⟩⟩
theorem cv_X0_221_X1 : zCV "FranchiseLedgerLaw" 221 "FranchiseLedger" yX1_month cX1_month 1 (Option.some Jvm.ClassFile.FieldType.int) 0 := ⟨q745, q746, q747, q129, q748, rfl, ⟨by decide +kernel, by decide +kernel, by decide +kernel⟩⟩
theorem cv_X0_224_X6 : zCV "FranchiseLedgerLaw" 224 "FranchiseLedgerModel" yX6_month cX6_month 1 (Option.some Jvm.ClassFile.FieldType.int) 0 := ⟨q2631, q2632, q2633, q156, q2634, rfl, ⟨by decide +kernel, by decide +kernel, by decide +kernel⟩⟩
theorem cv_X0_225 : zCSX "FranchiseLedgerLaw" 225 yX0_owner cX0_owner 5 (Option.some Jvm.ClassFile.FieldType.int) [((0 : Nat), (10 : Nat), (13 : Nat), (13 : Nat))] 4 := ⟨q2004, q2005, q128, q2006, ⟨by decide +kernel, by decide +kernel, by decide +kernel⟩⟩
theorem cv_X0_228_X6 : zCV "FranchiseLedgerLaw" 228 "FranchiseLedgerModel" yX6_owner cX6_owner 3 (Option.some Jvm.ClassFile.FieldType.int) 2 := ⟨q2635, q2636, q2637, q156, q2638, rfl, ⟨by decide +kernel, by decide +kernel, by decide +kernel⟩⟩
theorem cv_X0_229 : zCSX "FranchiseLedgerLaw" 229 yX0_area cX0_area 4 (Option.some Jvm.ClassFile.FieldType.int) [((0 : Nat), (9 : Nat), (12 : Nat), (22 : Nat))] 3 := ⟨q2011, q2012, q128, q2013, ⟨by decide +kernel, by decide +kernel, by decide +kernel⟩⟩
theorem cv_X0_231_X6 : zCV "FranchiseLedgerLaw" 231 "FranchiseLedgerModel" yX6_area cX6_area 2 (Option.some Jvm.ClassFile.FieldType.int) 1 := ⟨q2651, q2652, q2653, q156, q2654, rfl, ⟨by decide +kernel, by decide +kernel, by decide +kernel⟩⟩
theorem cv_X0_232 : zCSX "FranchiseLedgerLaw" 232 yX0_perimeter cX0_perimeter 4 (Option.some Jvm.ClassFile.FieldType.int) [((0 : Nat), (9 : Nat), (12 : Nat), (22 : Nat))] 3 := ⟨q2023, q2024, q128, q2025, ⟨by decide +kernel, by decide +kernel, by decide +kernel⟩⟩
theorem cv_X0_234_X6 : zCV "FranchiseLedgerLaw" 234 "FranchiseLedgerModel" yX6_perimeter cX6_perimeter 4 (Option.some Jvm.ClassFile.FieldType.int) 1 := ⟨q2663, q2664, q2665, q156, q2666, rfl, ⟨by decide +kernel, by decide +kernel, by decide +kernel⟩⟩
theorem cv_X0_235 : zCSX "FranchiseLedgerLaw" 235 yX0_border cX0_border 5 (Option.some Jvm.ClassFile.FieldType.int) [((0 : Nat), (10 : Nat), (13 : Nat), (22 : Nat))] 4 := ⟨q2042, q2043, q128, q2044, ⟨by decide +kernel, by decide +kernel, by decide +kernel⟩⟩
theorem cv_X0_237_X6 : zCV "FranchiseLedgerLaw" 237 "FranchiseLedgerModel" yX6_border cX6_border 5 (Option.some Jvm.ClassFile.FieldType.int) 2 := ⟨q2675, q2676, q2677, q156, q2678, rfl, ⟨by decide +kernel, by decide +kernel, by decide +kernel⟩⟩
theorem cv_X0_238 : zCSX "FranchiseLedgerLaw" 238 yX0_isConnected cX0_isConnected 4 (Option.some Jvm.ClassFile.FieldType.int) [((0 : Nat), (16 : Nat), (19 : Nat), (22 : Nat))] 3 := ⟨q2053, q2054, q128, q2055, ⟨by decide +kernel, by decide +kernel, by decide +kernel⟩⟩
theorem cv_X0_240_X6 : zCV "FranchiseLedgerLaw" 240 "FranchiseLedgerModel" yX6_isConnected cX6_isConnected 2 (Option.some Jvm.ClassFile.FieldType.boolean) 1 := ⟨q2679, q2680, q2681, q156, q2682, rfl, ⟨by decide +kernel, by decide +kernel, by decide +kernel⟩⟩
theorem cv_X0_241 : zCSX "FranchiseLedgerLaw" 241 yX0_distance cX0_distance 6 (Option.some Jvm.ClassFile.FieldType.int) [((0 : Nat), (12 : Nat), (15 : Nat), (22 : Nat)), ((0 : Nat), (12 : Nat), (19 : Nat), (13 : Nat))] 5 := ⟨q2069, q2070, q128, q2071, ⟨by decide +kernel, by decide +kernel, by decide +kernel⟩⟩
theorem cv_X0_244_X6 : zCV "FranchiseLedgerLaw" 244 "FranchiseLedgerModel" yX6_distance cX6_distance 6 (Option.some Jvm.ClassFile.FieldType.int) 3 := ⟨q2691, q2692, q2693, q156, q2694, rfl, ⟨by decide +kernel, by decide +kernel, by decide +kernel⟩⟩
theorem cv_X0_245 : zCSX "FranchiseLedgerLaw" 245 yX0_cede cX0_cede 9 (Option.some Jvm.ClassFile.FieldType.int) [((0 : Nat), (18 : Nat), (21 : Nat), (22 : Nat)), ((0 : Nat), (18 : Nat), (25 : Nat), (13 : Nat))] 8 := ⟨q2089, q2090, q128, q2091, ⟨by decide +kernel, by decide +kernel, by decide +kernel⟩⟩
theorem cv_X0_248_X6 : zCV "FranchiseLedgerLaw" 248 "FranchiseLedgerModel" yX6_cede cX6_cede 10 (Option.some Jvm.ClassFile.FieldType.int) 6 := ⟨q2701, q2702, q2703, q156, q2704, rfl, ⟨by decide +kernel, by decide +kernel, by decide +kernel⟩⟩
theorem cv_X0_249 : zCSX "FranchiseLedgerLaw" 249 yX0_outletOwner cX0_outletOwner 4 (Option.some Jvm.ClassFile.FieldType.int) [((0 : Nat), (9 : Nat), (12 : Nat), (22 : Nat))] 3 := ⟨q2106, q2107, q128, q2108, ⟨by decide +kernel, by decide +kernel, by decide +kernel⟩⟩
theorem cv_X0_251_X6 : zCV "FranchiseLedgerLaw" 251 "FranchiseLedgerModel" yX6_outletOwner cX6_outletOwner 2 (Option.some Jvm.ClassFile.FieldType.int) 1 := ⟨q2740, q2741, q2742, q156, q2743, rfl, ⟨by decide +kernel, by decide +kernel, by decide +kernel⟩⟩
theorem cv_X0_252 : zCSX "FranchiseLedgerLaw" 252 yX0_outletCell cX0_outletCell 4 (Option.some Jvm.ClassFile.FieldType.int) [((0 : Nat), (9 : Nat), (12 : Nat), (22 : Nat))] 3 := ⟨q2113, q2114, q128, q2115, ⟨by decide +kernel, by decide +kernel, by decide +kernel⟩⟩
theorem cv_X0_254_X6 : zCV "FranchiseLedgerLaw" 254 "FranchiseLedgerModel" yX6_outletCell cX6_outletCell 2 (Option.some Jvm.ClassFile.FieldType.int) 1 := ⟨q2748, q2749, q2750, q156, q2751, rfl, ⟨by decide +kernel, by decide +kernel, by decide +kernel⟩⟩
theorem cv_X0_255 : zCSX "FranchiseLedgerLaw" 255 yX0_openOutlet cX0_openOutlet 6 (Option.some Jvm.ClassFile.FieldType.int) [((0 : Nat), (12 : Nat), (15 : Nat), (22 : Nat)), ((0 : Nat), (12 : Nat), (19 : Nat), (13 : Nat))] 5 := ⟨q2123, q2124, q128, q2125, ⟨by decide +kernel, by decide +kernel, by decide +kernel⟩⟩
theorem cv_X0_257_X6 : zCV "FranchiseLedgerLaw" 257 "FranchiseLedgerModel" yX6_openOutlet cX6_openOutlet 4 (Option.some Jvm.ClassFile.FieldType.int) 3 := ⟨q2753, q2754, q2755, q156, q2756, rfl, ⟨by decide +kernel, by decide +kernel, by decide +kernel⟩⟩
theorem cv_X0_258 : zCSX "FranchiseLedgerLaw" 258 yX0_bestSite cX0_bestSite 4 (Option.some Jvm.ClassFile.FieldType.int) [((0 : Nat), (9 : Nat), (12 : Nat), (22 : Nat))] 3 := ⟨q2133, q2134, q128, q2135, ⟨by decide +kernel, by decide +kernel, by decide +kernel⟩⟩
theorem cv_X0_260_X6 : zCV "FranchiseLedgerLaw" 260 "FranchiseLedgerModel" yX6_bestSite cX6_bestSite 4 (Option.some Jvm.ClassFile.FieldType.int) 1 := ⟨q2762, q2763, q2764, q156, q2765, rfl, ⟨by decide +kernel, by decide +kernel, by decide +kernel⟩⟩
theorem cv_X0_261 : zCSX "FranchiseLedgerLaw" 261 yX0_coverage cX0_coverage 5 (Option.some Jvm.ClassFile.FieldType.int) [((0 : Nat), (10 : Nat), (13 : Nat), (22 : Nat)), ((0 : Nat), (10 : Nat), (17 : Nat), (13 : Nat))] 4 := ⟨q2146, q2147, q128, q2148, ⟨by decide +kernel, by decide +kernel, by decide +kernel⟩⟩
theorem cv_X0_263_X6 : zCV "FranchiseLedgerLaw" 263 "FranchiseLedgerModel" yX6_coverage cX6_coverage 5 (Option.some Jvm.ClassFile.FieldType.int) 2 := ⟨q2770, q2771, q2772, q156, q2773, rfl, ⟨by decide +kernel, by decide +kernel, by decide +kernel⟩⟩
theorem cv_X0_264 : zCSX "FranchiseLedgerLaw" 264 yX0_rivalCells cX0_rivalCells 5 (Option.some Jvm.ClassFile.FieldType.int) [((0 : Nat), (10 : Nat), (13 : Nat), (22 : Nat)), ((0 : Nat), (10 : Nat), (17 : Nat), (13 : Nat))] 4 := ⟨q2154, q2155, q128, q2156, ⟨by decide +kernel, by decide +kernel, by decide +kernel⟩⟩
theorem cv_X0_266_X6 : zCV "FranchiseLedgerLaw" 266 "FranchiseLedgerModel" yX6_rivalCells cX6_rivalCells 7 (Option.some Jvm.ClassFile.FieldType.int) 2 := ⟨q2775, q2776, q2777, q156, q2778, rfl, ⟨by decide +kernel, by decide +kernel, by decide +kernel⟩⟩
theorem cv_X0_267 : zCSX "FranchiseLedgerLaw" 267 yX0_halvingLine cX0_halvingLine 4 (Option.some Jvm.ClassFile.FieldType.int) [((0 : Nat), (9 : Nat), (12 : Nat), (22 : Nat))] 3 := ⟨q2161, q2162, q128, q2163, ⟨by decide +kernel, by decide +kernel, by decide +kernel⟩⟩
theorem cv_X0_269_X6 : zCV "FranchiseLedgerLaw" 269 "FranchiseLedgerModel" yX6_halvingLine cX6_halvingLine 8 (Option.some Jvm.ClassFile.FieldType.int) 1 := ⟨q2779, q2780, q2781, q156, q2782, rfl, ⟨by decide +kernel, by decide +kernel, by decide +kernel⟩⟩
theorem cv_X0_272 : zCSX "FranchiseLedgerLaw" 272 yX0_royalty cX0_royalty 6 (Option.some Jvm.ClassFile.FieldType.int) [((0 : Nat), (10 : Nat), (13 : Nat), (22 : Nat)), ((0 : Nat), (10 : Nat), (17 : Nat), (13 : Nat))] 4 := ⟨q2173, q2174, q128, q2175, ⟨by decide +kernel, by decide +kernel, by decide +kernel⟩⟩
theorem cv_X0_275_X6 : zCV "FranchiseLedgerLaw" 275 "FranchiseLedgerModel" yX6_royalty cX6_royalty 4 (Option.some Jvm.ClassFile.FieldType.long) 2 := ⟨q2787, q2788, q2789, q156, q2790, rfl, ⟨by decide +kernel, by decide +kernel, by decide +kernel⟩⟩
theorem cv_X0_276 : zCSX "FranchiseLedgerLaw" 276 yX0_planOf cX0_planOf 4 (Option.some Jvm.ClassFile.FieldType.int) [((0 : Nat), (9 : Nat), (12 : Nat), (22 : Nat))] 3 := ⟨q2186, q2187, q128, q2188, ⟨by decide +kernel, by decide +kernel, by decide +kernel⟩⟩
theorem cv_X0_278_X6 : zCV "FranchiseLedgerLaw" 278 "FranchiseLedgerModel" yX6_planOf cX6_planOf 2 (Option.some Jvm.ClassFile.FieldType.int) 1 := ⟨q2809, q2810, q2811, q156, q2812, rfl, ⟨by decide +kernel, by decide +kernel, by decide +kernel⟩⟩
theorem cv_X0_279 : zCSX "FranchiseLedgerLaw" 279 yX0_setPlan cX0_setPlan 5 (Option.some Jvm.ClassFile.FieldType.int) [((0 : Nat), (10 : Nat), (13 : Nat), (22 : Nat))] 4 := ⟨q2193, q2194, q128, q2195, ⟨by decide +kernel, by decide +kernel, by decide +kernel⟩⟩
theorem cv_X0_281_X6 : zCV "FranchiseLedgerLaw" 281 "FranchiseLedgerModel" yX6_setPlan cX6_setPlan 4 (Option.some Jvm.ClassFile.FieldType.int) 2 := ⟨q2817, q2818, q2819, q156, q2820, rfl, ⟨by decide +kernel, by decide +kernel, by decide +kernel⟩⟩
theorem cv_X0_282 : zCSX "FranchiseLedgerLaw" 282 yX0_cheapestPlan cX0_cheapestPlan 4 (Option.some Jvm.ClassFile.FieldType.int) [((0 : Nat), (9 : Nat), (12 : Nat), (22 : Nat))] 3 := ⟨q2200, q2201, q128, q2202, ⟨by decide +kernel, by decide +kernel, by decide +kernel⟩⟩
theorem cv_X0_284_X6 : zCV "FranchiseLedgerLaw" 284 "FranchiseLedgerModel" yX6_cheapestPlan cX6_cheapestPlan 6 (Option.some Jvm.ClassFile.FieldType.int) 1 := ⟨q2825, q2826, q2827, q156, q2828, rfl, ⟨by decide +kernel, by decide +kernel, by decide +kernel⟩⟩
theorem cv_X0_285 : zCSX "FranchiseLedgerLaw" 285 yX0_reportSales cX0_reportSales 6 (Option.some Jvm.ClassFile.FieldType.int) [((0 : Nat), (10 : Nat), (13 : Nat), (22 : Nat)), ((0 : Nat), (10 : Nat), (17 : Nat), (13 : Nat)), ((0 : Nat), (10 : Nat), (21 : Nat), (79 : Nat))] 4 := ⟨q2216, q2217, q128, q2218, ⟨by decide +kernel, by decide +kernel, by decide +kernel⟩⟩
theorem cv_X0_287_X6 : zCV "FranchiseLedgerLaw" 287 "FranchiseLedgerModel" yX6_reportSales cX6_reportSales 6 (Option.some Jvm.ClassFile.FieldType.long) 2 := ⟨q2840, q2841, q2842, q156, q2843, rfl, ⟨by decide +kernel, by decide +kernel, by decide +kernel⟩⟩
theorem cv_X0_288 : zCSX "FranchiseLedgerLaw" 288 yX0_deliver cX0_deliver 8 (Option.some Jvm.ClassFile.FieldType.int) [((0 : Nat), (13 : Nat), (16 : Nat), (22 : Nat)), ((0 : Nat), (13 : Nat), (20 : Nat), (13 : Nat)), ((0 : Nat), (13 : Nat), (24 : Nat), (79 : Nat))] 6 := ⟨q2221, q2222, q128, q2223, ⟨by decide +kernel, by decide +kernel, by decide +kernel⟩⟩
theorem cv_X0_291_X6 : zCV "FranchiseLedgerLaw" 291 "FranchiseLedgerModel" yX6_deliver cX6_deliver 8 (Option.some Jvm.ClassFile.FieldType.long) 4 := ⟨q2850, q2851, q2852, q156, q2853, rfl, ⟨by decide +kernel, by decide +kernel, by decide +kernel⟩⟩
theorem cv_X0_292 : zCSX "FranchiseLedgerLaw" 292 yX0_sales cX0_sales 4 (Option.some Jvm.ClassFile.FieldType.int) [((0 : Nat), (8 : Nat), (11 : Nat), (22 : Nat))] 3 := ⟨q2225, q2226, q128, q2227, ⟨by decide +kernel, by decide +kernel, by decide +kernel⟩⟩
theorem cv_X0_294_X6 : zCV "FranchiseLedgerLaw" 294 "FranchiseLedgerModel" yX6_sales cX6_sales 2 (Option.some Jvm.ClassFile.FieldType.long) 1 := ⟨q2855, q2856, q2857, q156, q2858, rfl, ⟨by decide +kernel, by decide +kernel, by decide +kernel⟩⟩
theorem cv_X0_295 : zCSX "FranchiseLedgerLaw" 295 yX0_salesOf cX0_salesOf 5 (Option.some Jvm.ClassFile.FieldType.int) [((0 : Nat), (9 : Nat), (12 : Nat), (22 : Nat)), ((0 : Nat), (9 : Nat), (16 : Nat), (13 : Nat))] 4 := ⟨q2232, q2233, q128, q2234, ⟨by decide +kernel, by decide +kernel, by decide +kernel⟩⟩
theorem cv_X0_297_X6 : zCV "FranchiseLedgerLaw" 297 "FranchiseLedgerModel" yX6_salesOf cX6_salesOf 3 (Option.some Jvm.ClassFile.FieldType.long) 2 := ⟨q2859, q2860, q2861, q156, q2862, rfl, ⟨by decide +kernel, by decide +kernel, by decide +kernel⟩⟩
theorem cv_X0_298_X1 : zCV "FranchiseLedgerLaw" 298 "FranchiseLedger" yX1_ranked cX1_ranked 9 (Option.some Jvm.ClassFile.FieldType.int) 1 := ⟨q749, q750, q751, q129, q752, rfl, ⟨by decide +kernel, by decide +kernel, by decide +kernel⟩⟩
theorem cv_X0_301_X6 : zCV "FranchiseLedgerLaw" 301 "FranchiseLedgerModel" yX6_ranked cX6_ranked 7 (Option.some Jvm.ClassFile.FieldType.int) 1 := ⟨q2871, q2872, q2873, q156, q2874, rfl, ⟨by decide +kernel, by decide +kernel, by decide +kernel⟩⟩
theorem cv_X0_302 : zCSX "FranchiseLedgerLaw" 302 yX0_creditDue cX0_creditDue 5 (Option.some Jvm.ClassFile.FieldType.int) [((0 : Nat), (9 : Nat), (12 : Nat), (22 : Nat))] 4 := ⟨q2243, q2244, q128, q2245, ⟨by decide +kernel, by decide +kernel, by decide +kernel⟩⟩
theorem cv_X0_304_X6 : zCV "FranchiseLedgerLaw" 304 "FranchiseLedgerModel" yX6_creditDue cX6_creditDue 3 (Option.some Jvm.ClassFile.FieldType.long) 2 := ⟨q2879, q2880, q2881, q156, q2882, rfl, ⟨by decide +kernel, by decide +kernel, by decide +kernel⟩⟩
theorem cv_X0_305 : zCSX "FranchiseLedgerLaw" 305 yX0_closeMonth cX0_closeMonth 3 (Option.some Jvm.ClassFile.FieldType.int) [((0 : Nat), (8 : Nat), (11 : Nat), (79 : Nat))] 2 := ⟨q2251, q2252, q128, q2253, ⟨by decide +kernel, by decide +kernel, by decide +kernel⟩⟩
theorem cv_X0_308_X6 : zCV "FranchiseLedgerLaw" 308 "FranchiseLedgerModel" yX6_closeMonth cX6_closeMonth 8 (Option.some Jvm.ClassFile.FieldType.int) 0 := ⟨q2887, q2888, q2889, q156, q2890, rfl, ⟨by decide +kernel, by decide +kernel, by decide +kernel⟩⟩
theorem cv_X0_309 : zCSX "FranchiseLedgerLaw" 309 yX0_invoice cX0_invoice 6 (Option.some Jvm.ClassFile.FieldType.int) [((0 : Nat), (11 : Nat), (14 : Nat), (22 : Nat)), ((0 : Nat), (11 : Nat), (18 : Nat), (13 : Nat))] 5 := ⟨q2255, q2256, q128, q2257, ⟨by decide +kernel, by decide +kernel, by decide +kernel⟩⟩
theorem cv_X0_311_X6 : zCV "FranchiseLedgerLaw" 311 "FranchiseLedgerModel" yX6_invoice cX6_invoice 4 (Option.some Jvm.ClassFile.FieldType.long) 3 := ⟨q2913, q2914, q2915, q156, q2916, rfl, ⟨by decide +kernel, by decide +kernel, by decide +kernel⟩⟩
theorem cv_X0_312 : zCSX "FranchiseLedgerLaw" 312 yX0_predictDue cX0_predictDue 5 (Option.some Jvm.ClassFile.FieldType.int) [((0 : Nat), (9 : Nat), (12 : Nat), (22 : Nat)), ((0 : Nat), (9 : Nat), (16 : Nat), (13 : Nat))] 4 := ⟨q2263, q2264, q128, q2265, ⟨by decide +kernel, by decide +kernel, by decide +kernel⟩⟩
theorem cv_X0_314_X6 : zCV "FranchiseLedgerLaw" 314 "FranchiseLedgerModel" yX6_predictDue cX6_predictDue 3 (Option.some Jvm.ClassFile.FieldType.long) 2 := ⟨q2918, q2919, q2920, q156, q2921, rfl, ⟨by decide +kernel, by decide +kernel, by decide +kernel⟩⟩
theorem cv_X0_315 : zCSX "FranchiseLedgerLaw" 315 yX0_balance cX0_balance 4 (Option.some Jvm.ClassFile.FieldType.int) [((0 : Nat), (8 : Nat), (11 : Nat), (22 : Nat))] 3 := ⟨q2272, q2273, q128, q2274, ⟨by decide +kernel, by decide +kernel, by decide +kernel⟩⟩
theorem cv_X0_317_X6 : zCV "FranchiseLedgerLaw" 317 "FranchiseLedgerModel" yX6_balance cX6_balance 2 (Option.some Jvm.ClassFile.FieldType.long) 1 := ⟨q2923, q2924, q2925, q156, q2926, rfl, ⟨by decide +kernel, by decide +kernel, by decide +kernel⟩⟩
theorem cv_X0_318_X1 : zCV "FranchiseLedgerLaw" 318 "FranchiseLedger" yX1_totalOwed cX1_totalOwed 4 (Option.some Jvm.ClassFile.FieldType.long) 0 := ⟨q820, q821, q822, q129, q823, rfl, ⟨by decide +kernel, by decide +kernel, by decide +kernel⟩⟩
theorem cv_X0_322_X6 : zCV "FranchiseLedgerLaw" 322 "FranchiseLedgerModel" yX6_totalOwed cX6_totalOwed 4 (Option.some Jvm.ClassFile.FieldType.long) 0 := ⟨q2927, q2928, q2929, q156, q2930, rfl, ⟨by decide +kernel, by decide +kernel, by decide +kernel⟩⟩
theorem cv_X0_323 : zCSX "FranchiseLedgerLaw" 323 yX0_pay cX0_pay 6 (Option.some Jvm.ClassFile.FieldType.int) [((0 : Nat), (10 : Nat), (13 : Nat), (22 : Nat)), ((0 : Nat), (10 : Nat), (17 : Nat), (13 : Nat))] 4 := ⟨q2279, q2280, q128, q2281, ⟨by decide +kernel, by decide +kernel, by decide +kernel⟩⟩
theorem cv_X0_325_X6 : zCV "FranchiseLedgerLaw" 325 "FranchiseLedgerModel" yX6_pay cX6_pay 4 (Option.some Jvm.ClassFile.FieldType.long) 2 := ⟨q2931, q2932, q2933, q156, q2934, rfl, ⟨by decide +kernel, by decide +kernel, by decide +kernel⟩⟩
theorem cv_X0_326 : zCSX "FranchiseLedgerLaw" 326 yX0_monthsOverdue cX0_monthsOverdue 4 (Option.some Jvm.ClassFile.FieldType.int) [((0 : Nat), (9 : Nat), (12 : Nat), (22 : Nat))] 3 := ⟨q2283, q2284, q128, q2285, ⟨by decide +kernel, by decide +kernel, by decide +kernel⟩⟩
theorem cv_X0_328_X6 : zCV "FranchiseLedgerLaw" 328 "FranchiseLedgerModel" yX6_monthsOverdue cX6_monthsOverdue 2 (Option.some Jvm.ClassFile.FieldType.int) 1 := ⟨q2939, q2940, q2941, q156, q2942, rfl, ⟨by decide +kernel, by decide +kernel, by decide +kernel⟩⟩
theorem cv_X0_329 : zCSX "FranchiseLedgerLaw" 329 yX0_payOff cX0_payOff 6 (Option.some Jvm.ClassFile.FieldType.int) [((0 : Nat), (11 : Nat), (14 : Nat), (22 : Nat)), ((0 : Nat), (11 : Nat), (18 : Nat), (13 : Nat))] 4 := ⟨q2290, q2291, q128, q2292, ⟨by decide +kernel, by decide +kernel, by decide +kernel⟩⟩
theorem cv_X0_331_X6 : zCV "FranchiseLedgerLaw" 331 "FranchiseLedgerModel" yX6_payOff cX6_payOff 7 (Option.some Jvm.ClassFile.FieldType.int) 2 := ⟨q2935, q2936, q2937, q156, q2938, rfl, ⟨by decide +kernel, by decide +kernel, by decide +kernel⟩⟩
theorem cv_X0_332 : zCSX "FranchiseLedgerLaw" 332 yX0_terminate cX0_terminate 4 (Option.some Jvm.ClassFile.FieldType.int) [((0 : Nat), (16 : Nat), (19 : Nat), (22 : Nat))] 3 := ⟨q2297, q2298, q128, q2299, ⟨by decide +kernel, by decide +kernel, by decide +kernel⟩⟩
theorem cv_X0_334_X6 : zCV "FranchiseLedgerLaw" 334 "FranchiseLedgerModel" yX6_terminate cX6_terminate 3 (Option.some Jvm.ClassFile.FieldType.boolean) 1 := ⟨q2943, q2944, q2945, q156, q2946, rfl, ⟨by decide +kernel, by decide +kernel, by decide +kernel⟩⟩
theorem cv_X0_335 : zCSX "FranchiseLedgerLaw" 335 yX0_status cX0_status 4 (Option.some Jvm.ClassFile.FieldType.int) [((0 : Nat), (9 : Nat), (12 : Nat), (22 : Nat))] 3 := ⟨q2312, q2313, q128, q2314, ⟨by decide +kernel, by decide +kernel, by decide +kernel⟩⟩
theorem cv_X0_337_X6 : zCV "FranchiseLedgerLaw" 337 "FranchiseLedgerModel" yX6_status cX6_status 2 (Option.some Jvm.ClassFile.FieldType.int) 1 := ⟨q2952, q2953, q2954, q156, q2955, rfl, ⟨by decide +kernel, by decide +kernel, by decide +kernel⟩⟩
theorem cv_X0_338_X1 : zCV "FranchiseLedgerLaw" 338 "FranchiseLedger" yX1_fundBalance cX1_fundBalance 1 (Option.some Jvm.ClassFile.FieldType.long) 0 := ⟨q827, q828, q829, q129, q830, rfl, ⟨by decide +kernel, by decide +kernel, by decide +kernel⟩⟩
theorem cv_X0_341_X6 : zCV "FranchiseLedgerLaw" 341 "FranchiseLedgerModel" yX6_fundBalance cX6_fundBalance 1 (Option.some Jvm.ClassFile.FieldType.long) 0 := ⟨q2956, q2957, q2958, q156, q2959, rfl, ⟨by decide +kernel, by decide +kernel, by decide +kernel⟩⟩
theorem cv_X0_342 : zCSX "FranchiseLedgerLaw" 342 yX0_contributions cX0_contributions 4 (Option.some Jvm.ClassFile.FieldType.int) [((0 : Nat), (8 : Nat), (11 : Nat), (22 : Nat))] 3 := ⟨q2319, q2320, q128, q2321, ⟨by decide +kernel, by decide +kernel, by decide +kernel⟩⟩
theorem cv_X0_344_X6 : zCV "FranchiseLedgerLaw" 344 "FranchiseLedgerModel" yX6_contributions cX6_contributions 2 (Option.some Jvm.ClassFile.FieldType.long) 1 := ⟨q2968, q2969, q2970, q156, q2971, rfl, ⟨by decide +kernel, by decide +kernel, by decide +kernel⟩⟩
theorem cv_X0_345 : zCSX "FranchiseLedgerLaw" 345 yX0_spent cX0_spent 4 (Option.some Jvm.ClassFile.FieldType.int) [((0 : Nat), (8 : Nat), (11 : Nat), (13 : Nat))] 3 := ⟨q2326, q2327, q128, q2328, ⟨by decide +kernel, by decide +kernel, by decide +kernel⟩⟩
theorem cv_X0_347_X6 : zCV "FranchiseLedgerLaw" 347 "FranchiseLedgerModel" yX6_spent cX6_spent 2 (Option.some Jvm.ClassFile.FieldType.long) 1 := ⟨q2972, q2973, q2974, q156, q2975, rfl, ⟨by decide +kernel, by decide +kernel, by decide +kernel⟩⟩
theorem cv_X0_348 : zCSX "FranchiseLedgerLaw" 348 yX0_campaign cX0_campaign 5 (Option.some Jvm.ClassFile.FieldType.int) [((0 : Nat), (16 : Nat), (19 : Nat), (13 : Nat))] 3 := ⟨q2334, q2335, q128, q2336, ⟨by decide +kernel, by decide +kernel, by decide +kernel⟩⟩
theorem cv_X0_351_X6 : zCV "FranchiseLedgerLaw" 351 "FranchiseLedgerModel" yX6_campaign cX6_campaign 3 (Option.some Jvm.ClassFile.FieldType.boolean) 1 := ⟨q2976, q2977, q2978, q156, q2979, rfl, ⟨by decide +kernel, by decide +kernel, by decide +kernel⟩⟩
theorem cv_X0_352 : zCSX "FranchiseLedgerLaw" 352 yX0_grant cX0_grant 6 (Option.some Jvm.ClassFile.FieldType.int) [((0 : Nat), (18 : Nat), (21 : Nat), (22 : Nat)), ((0 : Nat), (18 : Nat), (25 : Nat), (13 : Nat))] 4 := ⟨q2338, q2339, q128, q2340, ⟨by decide +kernel, by decide +kernel, by decide +kernel⟩⟩
theorem cv_X0_354_X6 : zCV "FranchiseLedgerLaw" 354 "FranchiseLedgerModel" yX6_grant cX6_grant 4 (Option.some Jvm.ClassFile.FieldType.boolean) 2 := ⟨q2980, q2981, q2982, q156, q2983, rfl, ⟨by decide +kernel, by decide +kernel, by decide +kernel⟩⟩
theorem cv_X0_355 : zCSX "FranchiseLedgerLaw" 355 yX0_allowance cX0_allowance 4 (Option.some Jvm.ClassFile.FieldType.int) [((0 : Nat), (8 : Nat), (11 : Nat), (22 : Nat))] 3 := ⟨q2342, q2343, q128, q2344, ⟨by decide +kernel, by decide +kernel, by decide +kernel⟩⟩
theorem cv_X0_357_X6 : zCV "FranchiseLedgerLaw" 357 "FranchiseLedgerModel" yX6_allowance cX6_allowance 2 (Option.some Jvm.ClassFile.FieldType.long) 1 := ⟨q2988, q2989, q2990, q156, q2991, rfl, ⟨by decide +kernel, by decide +kernel, by decide +kernel⟩⟩
theorem cv_X0_358 : zCSX "FranchiseLedgerLaw" 358 yX0_nationalShare cX0_nationalShare 4 (Option.some Jvm.ClassFile.FieldType.int) [((0 : Nat), (8 : Nat), (11 : Nat), (22 : Nat))] 3 := ⟨q2349, q2350, q128, q2351, ⟨by decide +kernel, by decide +kernel, by decide +kernel⟩⟩
theorem cv_X0_360_X6 : zCV "FranchiseLedgerLaw" 360 "FranchiseLedgerModel" yX6_nationalShare cX6_nationalShare 11 (Option.some Jvm.ClassFile.FieldType.long) 1 := ⟨q2992, q2993, q2994, q156, q2995, rfl, ⟨by decide +kernel, by decide +kernel, by decide +kernel⟩⟩
theorem cv_X0_361 : zCSX "FranchiseLedgerLaw" 361 yX0_requestTransfer cX0_requestTransfer 7 (Option.some Jvm.ClassFile.FieldType.int) [((0 : Nat), (19 : Nat), (22 : Nat), (22 : Nat)), ((0 : Nat), (19 : Nat), (26 : Nat), (13 : Nat))] 5 := ⟨q2364, q2365, q128, q2366, ⟨by decide +kernel, by decide +kernel, by decide +kernel⟩⟩
theorem cv_X0_364_X6 : zCV "FranchiseLedgerLaw" 364 "FranchiseLedgerModel" yX6_requestTransfer cX6_requestTransfer 5 (Option.some Jvm.ClassFile.FieldType.boolean) 3 := ⟨q3000, q3001, q3002, q156, q3003, rfl, ⟨by decide +kernel, by decide +kernel, by decide +kernel⟩⟩
theorem cv_X0_369 : zCSX "FranchiseLedgerLaw" 369 yX0_exercise cX0_exercise 4 (Option.some Jvm.ClassFile.FieldType.int) [((0 : Nat), (16 : Nat), (19 : Nat), (22 : Nat))] 3 := ⟨q2381, q2382, q128, q2383, ⟨by decide +kernel, by decide +kernel, by decide +kernel⟩⟩
theorem cv_X0_371_X6 : zCV "FranchiseLedgerLaw" 371 "FranchiseLedgerModel" yX6_exercise cX6_exercise 2 (Option.some Jvm.ClassFile.FieldType.boolean) 1 := ⟨q3009, q3010, q3011, q156, q3012, rfl, ⟨by decide +kernel, by decide +kernel, by decide +kernel⟩⟩
theorem cv_X0_372 : zCSX "FranchiseLedgerLaw" 372 yX0_withdraw cX0_withdraw 4 (Option.some Jvm.ClassFile.FieldType.int) [((0 : Nat), (16 : Nat), (19 : Nat), (22 : Nat))] 3 := ⟨q2388, q2389, q128, q2390, ⟨by decide +kernel, by decide +kernel, by decide +kernel⟩⟩
theorem cv_X0_374_X6 : zCV "FranchiseLedgerLaw" 374 "FranchiseLedgerModel" yX6_withdraw cX6_withdraw 2 (Option.some Jvm.ClassFile.FieldType.boolean) 1 := ⟨q3014, q3015, q3016, q156, q3017, rfl, ⟨by decide +kernel, by decide +kernel, by decide +kernel⟩⟩
theorem cv_X0_375 : zCSX "FranchiseLedgerLaw" 375 yX0_transferState cX0_transferState 4 (Option.some Jvm.ClassFile.FieldType.int) [((0 : Nat), (9 : Nat), (12 : Nat), (22 : Nat))] 3 := ⟨q2395, q2396, q128, q2397, ⟨by decide +kernel, by decide +kernel, by decide +kernel⟩⟩
theorem cv_X0_377_X6 : zCV "FranchiseLedgerLaw" 377 "FranchiseLedgerModel" yX6_transferState cX6_transferState 2 (Option.some Jvm.ClassFile.FieldType.int) 1 := ⟨q3018, q3019, q3020, q156, q3021, rfl, ⟨by decide +kernel, by decide +kernel, by decide +kernel⟩⟩
theorem cv_X0_378 : zCSX "FranchiseLedgerLaw" 378 yX0_transferWait cX0_transferWait 4 (Option.some Jvm.ClassFile.FieldType.int) [((0 : Nat), (9 : Nat), (12 : Nat), (22 : Nat))] 3 := ⟨q2402, q2403, q128, q2404, ⟨by decide +kernel, by decide +kernel, by decide +kernel⟩⟩
theorem cv_X0_380_X6 : zCV "FranchiseLedgerLaw" 380 "FranchiseLedgerModel" yX6_transferWait cX6_transferWait 2 (Option.some Jvm.ClassFile.FieldType.int) 1 := ⟨q3022, q3023, q3024, q156, q3025, rfl, ⟨by decide +kernel, by decide +kernel, by decide +kernel⟩⟩
theorem cv_X0_381 : zCSX "FranchiseLedgerLaw" 381 yX0_generation cX0_generation 4 (Option.some Jvm.ClassFile.FieldType.int) [((0 : Nat), (9 : Nat), (12 : Nat), (22 : Nat))] 3 := ⟨q2410, q2411, q128, q2412, ⟨by decide +kernel, by decide +kernel, by decide +kernel⟩⟩
theorem cv_X0_383_X6 : zCV "FranchiseLedgerLaw" 383 "FranchiseLedgerModel" yX6_generation cX6_generation 2 (Option.some Jvm.ClassFile.FieldType.int) 1 := ⟨q3026, q3027, q3028, q156, q3029, rfl, ⟨by decide +kernel, by decide +kernel, by decide +kernel⟩⟩
theorem cv_X0_384 : zCSX "FranchiseLedgerLaw" 384 yX0_worth cX0_worth 4 (Option.some Jvm.ClassFile.FieldType.int) [((0 : Nat), (9 : Nat), (12 : Nat), (22 : Nat))] 3 := ⟨q2417, q2418, q128, q2419, ⟨by decide +kernel, by decide +kernel, by decide +kernel⟩⟩
theorem cv_X0_386_X6 : zCV "FranchiseLedgerLaw" 386 "FranchiseLedgerModel" yX6_worth cX6_worth 2 (Option.some Jvm.ClassFile.FieldType.int) 1 := ⟨q3030, q3031, q3032, q156, q3033, rfl, ⟨by decide +kernel, by decide +kernel, by decide +kernel⟩⟩
theorem cv_X0_387_X1 : zCV "FranchiseLedgerLaw" 387 "FranchiseLedger" yX1_saveSnapshot cX1_saveSnapshot 2 (Option.some Jvm.ClassFile.FieldType.boolean) 1 := ⟨q844, q845, q846, q129, q847, rfl, ⟨by decide +kernel, by decide +kernel, by decide +kernel⟩⟩
theorem cv_X0_390_X6 : zCV "FranchiseLedgerLaw" 390 "FranchiseLedgerModel" yX6_saveSnapshot cX6_saveSnapshot 2 (Option.some Jvm.ClassFile.FieldType.boolean) 1 := ⟨q2612, q2613, q2614, q156, q2615, rfl, ⟨by decide +kernel, by decide +kernel, by decide +kernel⟩⟩
theorem cv_X0_391_X1 : zCV "FranchiseLedgerLaw" 391 "FranchiseLedger" yX1_restoreSnapshot cX1_restoreSnapshot 2 (Option.some Jvm.ClassFile.FieldType.boolean) 1 := ⟨q1083, q1084, q1085, q129, q1086, rfl, ⟨by decide +kernel, by decide +kernel, by decide +kernel⟩⟩
theorem cv_X0_394_X6 : zCV "FranchiseLedgerLaw" 394 "FranchiseLedgerModel" yX6_restoreSnapshot cX6_restoreSnapshot 2 (Option.some Jvm.ClassFile.FieldType.boolean) 1 := ⟨q2623, q2624, q2625, q156, q2626, rfl, ⟨by decide +kernel, by decide +kernel, by decide +kernel⟩⟩
theorem cv_X0_395 : zCSX "FranchiseLedgerLaw" 395 yX0_formatInvoice cX0_formatInvoice 5 (Option.some Jvm.ClassFile.FieldType.int) [((0 : Nat), (10 : Nat), (13 : Nat), (22 : Nat)), ((0 : Nat), (10 : Nat), (17 : Nat), (13 : Nat))] 4 := ⟨q2424, q2425, q128, q2426, ⟨by decide +kernel, by decide +kernel, by decide +kernel⟩⟩
theorem cv_X0_397_X6 : zCV "FranchiseLedgerLaw" 397 "FranchiseLedgerModel" yX6_formatInvoice cX6_formatInvoice 4 (Option.some Jvm.ClassFile.FieldType.int) 2 := ⟨q3034, q3035, q3036, q156, q3037, rfl, ⟨by decide +kernel, by decide +kernel, by decide +kernel⟩⟩
theorem cv_X0_398_X1 : zCV "FranchiseLedgerLaw" 398 "FranchiseLedger" yX1_formattedByte cX1_formattedByte 2 (Option.some Jvm.ClassFile.FieldType.int) 1 := ⟨q1087, q1088, q1089, q129, q1090, rfl, ⟨by decide +kernel, by decide +kernel, by decide +kernel⟩⟩
theorem cv_X0_401_X6 : zCV "FranchiseLedgerLaw" 401 "FranchiseLedgerModel" yX6_formattedByte cX6_formattedByte 2 (Option.some Jvm.ClassFile.FieldType.int) 1 := ⟨q3063, q3064, q3065, q156, q3066, rfl, ⟨by decide +kernel, by decide +kernel, by decide +kernel⟩⟩
theorem cv_X0_365 : zCSX "FranchiseLedgerLaw" 365 yX0_vote cX0_vote 6 (Option.some Jvm.ClassFile.FieldType.int) [((0 : Nat), (12 : Nat), (15 : Nat), (22 : Nat)), ((0 : Nat), (12 : Nat), (19 : Nat), (13 : Nat))] 5 := ⟨q2377, q2378, q128, q2379, ⟨by decide +kernel, by decide +kernel, by decide +kernel⟩⟩
theorem cv_X0_368_X6 : zCV "FranchiseLedgerLaw" 368 "FranchiseLedgerModel" yX6_vote cX6_vote 4 (Option.some Jvm.ClassFile.FieldType.int) 3 := ⟨q3005, q3006, q3007, q156, q3008, rfl, ⟨by decide +kernel, by decide +kernel, by decide +kernel⟩⟩
def f_X0_runJournal_b12 (E : zE) (s0 : Nat) (h : zH) : Option (Int32 × zH) :=
  some ((1 : Int32), h)
theorem w_X0_runJournal_b12 (C0 : zCx p l e R s m args below meth c D B0 4 "FranchiseLedgerLaw" cX0_runJournal E 15 290 (Option.some Jvm.ClassFile.FieldType.int) "runJournal") (ht : c.exceptionTable.toList = tableOf [((0 : Nat), (9 : Nat), (12 : Nat), (13 : Nat))]) {r : Int32} {h' : zH} {s0 : Nat} {h : zH} (hf : f_X0_runJournal_b12 E s0 h = some (r, h')) : zW p l e R s m args below meth c D B0 4 (zEnd D B0 R below args s (zoI r) h') h 12 [] [.ref s0] := by
  unfold f_X0_runJournal_b12 at hf
  refine zr_astore_n (i := 3) (lv' := [(3, .ref s0)]) C0 dX0_runJournal_12 rfl (by decide) (by first | rfl | simp [zst1, zst2, zcat_rf]) ?_
  refine zr_iconst C0 (v := 1) dX0_runJournal_13 (by decide) ?_
  refine zretW hf ?_
  exact zr_iret C0 (ty := .int) rfl rfl dX0_runJournal_14 rfl
def f_X0_runJournal_b0 (E : zE) (p0 : Nat) (p1 : Int32) (p2 : Nat) (h : zH) : Option (Int32 × zH) :=
  (cko h p0 0).bind fun _ =>
  bnd2 (f_X1_runJournal E p0 p1 h) fun x4 h2 =>
  Sum.elim (fun x5 => (
    (sL h2 p2 (0 : Int32) (x5.toInt64)).bind fun h7 =>
    some ((0 : Int32), h7)
  )) (fun q6 => (
    if q6.1 = 21 then (
      f_X0_runJournal_b12 E q6.2 h2
    ) else (
    none
    )
  )) x4
theorem w_X0_runJournal_b0 (C0 : zCx p l e R s m args below meth c D B0 4 "FranchiseLedgerLaw" cX0_runJournal E 15 290 (Option.some Jvm.ClassFile.FieldType.int) "runJournal") (ht : c.exceptionTable.toList = tableOf [((0 : Nat), (9 : Nat), (12 : Nat), (13 : Nat))]) {r : Int32} {h' : zH} {p0 : Nat} {p1 : Int32} {p2 : Nat} {h : zH} (hf : f_X0_runJournal_b0 E p0 p1 p2 h = some (r, h')) : zW p l e R s m args below meth c D B0 4 (zEnd D B0 R below args s (zoI r) h') h 0 [(0, .ref p0), (1, .int p1), (2, .ref p2)] [] := by
  unfold f_X0_runJournal_b0 at hf
  refine zr_aload_n C0 dX0_runJournal_0 rfl 2 rfl ?_
  refine zr_iconst C0 (v := 0) dX0_runJournal_1 (by decide) ?_
  refine zr_aload_n C0 dX0_runJournal_2 rfl 0 rfl ?_
  refine zr_iload_n C0 dX0_runJournal_3 rfl 1 rfl ?_
  obtain ⟨_, e1, hf⟩ := zbind hf
  obtain ⟨x4, h2, e3, hf⟩ := zbind2 hf
  rcases x4 with x5 | q6
  · have hf := zinl hf
    refine zr_callV_r C0 cv_X0_7_X1 rfl (zcko e1) (m_X1_runJournal C0.2.2.2.2.2.2.1 e3) (by decide) (by decide) rfl rfl (Nat.le_of_ble_eq_true rfl) dX0_runJournal_4 rfl ?_
    refine zr_i2l C0 dX0_runJournal_7 ?_
    obtain ⟨h7, e8, hf⟩ := zbind hf
    refine zr_last C0 dX0_runJournal_8 e8 ?_
    refine zr_goto C0 (tgt := 15) dX0_runJournal_9 (by decide) ?_
    refine zr_iconst C0 (v := 0) dX0_runJournal_15 (by decide) ?_
    refine zretW hf ?_
    exact zr_iret C0 (ty := .int) rfl rfl dX0_runJournal_16 rfl
  · have hf := zinr hf
    rcases Decidable.em (q6.1 = 21) with c9 | c9
    · obtain ⟨q1, q2⟩ := q6
      subst c9
      have hf := zif_t rfl hf
      refine zr_callV_t C0 cv_X0_7_X1 rfl (zcko e1) (m_X1_runJournal C0.2.2.2.2.2.2.1 e3) (by decide) (by decide) rfl rfl (Nat.le_of_ble_eq_true rfl) dX0_runJournal_4 (zr_catch C0 (tableOf []) ⟨0, 9, 12, 13⟩ (tableOf []) (by rw [ht]; rfl) rfl (fun z hz => by cases hz) (by decide) (by decide) q1743 q208 ?_)
      refine zr_sub [] rfl ?_
      exact w_X0_runJournal_b12 C0 ht hf
    have hf := zif_f c9 hf
    cases hf
def f_X0_runJournal (E : zE) (p0 : Nat) (p1 : Int32) (p2 : Nat) (h : zH) : Option (Int32 × zH) := f_X0_runJournal_b0 E p0 p1 p2 h
theorem m_X0_runJournal {l : Launch} (hst : l.stackTraces = false) {D : zD} {B0 : Nat} {E : zE} {p0 : Nat} {p1 : Int32} {p2 : Nat} {h h' : zH} {r : Int32} (hf : f_X0_runJournal E p0 p1 p2 h = some (r, h')) : zMet l yX0_runJournal (wsW_ yX0_runJournal cX0_runJournal 4 (Option.some Jvm.ClassFile.FieldType.int) [((0 : Nat), (9 : Nat), (12 : Nat), (13 : Nat))]) 15 290 D B0 E [.ref p0, .int p1, .ref p2] h (zoI r) h' := by
  unfold f_X0_runJournal at hf
  refine zMet_ofH hst (by decide +kernel) rfl rfl (Nat.le_of_ble_eq_true rfl) (fun p e R s m below meth c C0 ht => ?_)
  show zW _ _ _ _ _ _ _ _ _ _ _ _ _ _ _ _ [(0, .ref p0), (1, .int p1), (2, .ref p2)] []
  exact w_X0_runJournal_b0 C0 ht hf
def f_X0_owner_b13 (E : zE) (s0 : Nat) (h : zH) : Option (Int32 × zH) :=
  some ((1 : Int32), h)
theorem w_X0_owner_b13 (C0 : zCx p l e R s m args below meth c D B0 5 "FranchiseLedgerLaw" cX0_owner E 11 176 (Option.some Jvm.ClassFile.FieldType.int) "owner") (ht : c.exceptionTable.toList = tableOf [((0 : Nat), (10 : Nat), (13 : Nat), (13 : Nat))]) {r : Int32} {h' : zH} {s0 : Nat} {h : zH} (hf : f_X0_owner_b13 E s0 h = some (r, h')) : zW p l e R s m args below meth c D B0 5 (zEnd D B0 R below args s (zoI r) h') h 13 [] [.ref s0] := by
  unfold f_X0_owner_b13 at hf
  refine zr_astore (i := 4) (lv' := [(4, .ref s0)]) C0 dX0_owner_13 (by decide) (by first | rfl | simp [zst1, zst2, zcat_rf]) ?_
  refine zr_iconst C0 (v := 1) dX0_owner_15 (by decide) ?_
  refine zretW hf ?_
  exact zr_iret C0 (ty := .int) rfl rfl dX0_owner_16 rfl
def f_X0_owner_b0 (E : zE) (p0 : Nat) (p1 : Int32) (p2 : Int32) (p3 : Nat) (h : zH) : Option (Int32 × zH) :=
  (cko h p0 0).bind fun _ =>
  bnd2 (f_X1_owner E p0 p1 p2 h) fun x4 h2 =>
  Sum.elim (fun x5 => (
    (sL h2 p3 (0 : Int32) (x5.toInt64)).bind fun h7 =>
    some ((0 : Int32), h7)
  )) (fun q6 => (
    if q6.1 = 21 then (
      f_X0_owner_b13 E q6.2 h2
    ) else (
    none
    )
  )) x4
theorem w_X0_owner_b0 (C0 : zCx p l e R s m args below meth c D B0 5 "FranchiseLedgerLaw" cX0_owner E 11 176 (Option.some Jvm.ClassFile.FieldType.int) "owner") (ht : c.exceptionTable.toList = tableOf [((0 : Nat), (10 : Nat), (13 : Nat), (13 : Nat))]) {r : Int32} {h' : zH} {p0 : Nat} {p1 : Int32} {p2 : Int32} {p3 : Nat} {h : zH} (hf : f_X0_owner_b0 E p0 p1 p2 p3 h = some (r, h')) : zW p l e R s m args below meth c D B0 5 (zEnd D B0 R below args s (zoI r) h') h 0 [(0, .ref p0), (1, .int p1), (2, .int p2), (3, .ref p3)] [] := by
  unfold f_X0_owner_b0 at hf
  refine zr_aload_n C0 dX0_owner_0 rfl 3 rfl ?_
  refine zr_iconst C0 (v := 0) dX0_owner_1 (by decide) ?_
  refine zr_aload_n C0 dX0_owner_2 rfl 0 rfl ?_
  refine zr_iload_n C0 dX0_owner_3 rfl 1 rfl ?_
  refine zr_iload_n C0 dX0_owner_4 rfl 2 rfl ?_
  obtain ⟨_, e1, hf⟩ := zbind hf
  obtain ⟨x4, h2, e3, hf⟩ := zbind2 hf
  rcases x4 with x5 | q6
  · have hf := zinl hf
    refine zr_callV_r C0 cv_X0_15_X1 rfl (zcko e1) (m_X1_owner C0.2.2.2.2.2.2.1 e3) (by decide) (by decide) rfl rfl (Nat.le_of_ble_eq_true rfl) dX0_owner_5 rfl ?_
    refine zr_i2l C0 dX0_owner_8 ?_
    obtain ⟨h7, e8, hf⟩ := zbind hf
    refine zr_last C0 dX0_owner_9 e8 ?_
    refine zr_goto C0 (tgt := 17) dX0_owner_10 (by decide) ?_
    refine zr_iconst C0 (v := 0) dX0_owner_17 (by decide) ?_
    refine zretW hf ?_
    exact zr_iret C0 (ty := .int) rfl rfl dX0_owner_18 rfl
  · have hf := zinr hf
    rcases Decidable.em (q6.1 = 21) with c9 | c9
    · obtain ⟨q1, q2⟩ := q6
      subst c9
      have hf := zif_t rfl hf
      refine zr_callV_t C0 cv_X0_15_X1 rfl (zcko e1) (m_X1_owner C0.2.2.2.2.2.2.1 e3) (by decide) (by decide) rfl rfl (Nat.le_of_ble_eq_true rfl) dX0_owner_5 (zr_catch C0 (tableOf []) ⟨0, 10, 13, 13⟩ (tableOf []) (by rw [ht]; rfl) rfl (fun z hz => by cases hz) (by decide) (by decide) q1743 q208 ?_)
      refine zr_sub [] rfl ?_
      exact w_X0_owner_b13 C0 ht hf
    have hf := zif_f c9 hf
    cases hf
def f_X0_owner (E : zE) (p0 : Nat) (p1 : Int32) (p2 : Int32) (p3 : Nat) (h : zH) : Option (Int32 × zH) := f_X0_owner_b0 E p0 p1 p2 p3 h
theorem m_X0_owner {l : Launch} (hst : l.stackTraces = false) {D : zD} {B0 : Nat} {E : zE} {p0 : Nat} {p1 : Int32} {p2 : Int32} {p3 : Nat} {h h' : zH} {r : Int32} (hf : f_X0_owner E p0 p1 p2 p3 h = some (r, h')) : zMet l yX0_owner (wsW_ yX0_owner cX0_owner 5 (Option.some Jvm.ClassFile.FieldType.int) [((0 : Nat), (10 : Nat), (13 : Nat), (13 : Nat))]) 11 176 D B0 E [.ref p0, .int p1, .int p2, .ref p3] h (zoI r) h' := by
  unfold f_X0_owner at hf
  refine zMet_ofH hst (by decide +kernel) rfl rfl (Nat.le_of_ble_eq_true rfl) (fun p e R s m below meth c C0 ht => ?_)
  show zW _ _ _ _ _ _ _ _ _ _ _ _ _ _ _ _ [(0, .ref p0), (1, .int p1), (2, .int p2), (3, .ref p3)] []
  exact w_X0_owner_b0 C0 ht hf
def f_X0_area_b12 (E : zE) (s0 : Nat) (h : zH) : Option (Int32 × zH) :=
  some ((1 : Int32), h)
theorem w_X0_area_b12 (C0 : zCx p l e R s m args below meth c D B0 4 "FranchiseLedgerLaw" cX0_area E 11 175 (Option.some Jvm.ClassFile.FieldType.int) "area") (ht : c.exceptionTable.toList = tableOf [((0 : Nat), (9 : Nat), (12 : Nat), (22 : Nat))]) {r : Int32} {h' : zH} {s0 : Nat} {h : zH} (hf : f_X0_area_b12 E s0 h = some (r, h')) : zW p l e R s m args below meth c D B0 4 (zEnd D B0 R below args s (zoI r) h') h 12 [] [.ref s0] := by
  unfold f_X0_area_b12 at hf
  refine zr_astore_n (i := 3) (lv' := [(3, .ref s0)]) C0 dX0_area_12 rfl (by decide) (by first | rfl | simp [zst1, zst2, zcat_rf]) ?_
  refine zr_iconst C0 (v := 1) dX0_area_13 (by decide) ?_
  refine zretW hf ?_
  exact zr_iret C0 (ty := .int) rfl rfl dX0_area_14 rfl
def f_X0_area_b0 (E : zE) (p0 : Nat) (p1 : Int32) (p2 : Nat) (h : zH) : Option (Int32 × zH) :=
  (cko h p0 0).bind fun _ =>
  bnd2 (f_X1_area E p0 p1 h) fun x4 h2 =>
  Sum.elim (fun x5 => (
    (sL h2 p2 (0 : Int32) (x5.toInt64)).bind fun h7 =>
    some ((0 : Int32), h7)
  )) (fun q6 => (
    if q6.1 = 20 then (
      f_X0_area_b12 E q6.2 h2
    ) else (
    none
    )
  )) x4
theorem w_X0_area_b0 (C0 : zCx p l e R s m args below meth c D B0 4 "FranchiseLedgerLaw" cX0_area E 11 175 (Option.some Jvm.ClassFile.FieldType.int) "area") (ht : c.exceptionTable.toList = tableOf [((0 : Nat), (9 : Nat), (12 : Nat), (22 : Nat))]) {r : Int32} {h' : zH} {p0 : Nat} {p1 : Int32} {p2 : Nat} {h : zH} (hf : f_X0_area_b0 E p0 p1 p2 h = some (r, h')) : zW p l e R s m args below meth c D B0 4 (zEnd D B0 R below args s (zoI r) h') h 0 [(0, .ref p0), (1, .int p1), (2, .ref p2)] [] := by
  unfold f_X0_area_b0 at hf
  refine zr_aload_n C0 dX0_area_0 rfl 2 rfl ?_
  refine zr_iconst C0 (v := 0) dX0_area_1 (by decide) ?_
  refine zr_aload_n C0 dX0_area_2 rfl 0 rfl ?_
  refine zr_iload_n C0 dX0_area_3 rfl 1 rfl ?_
  obtain ⟨_, e1, hf⟩ := zbind hf
  obtain ⟨x4, h2, e3, hf⟩ := zbind2 hf
  rcases x4 with x5 | q6
  · have hf := zinl hf
    refine zr_callV_r C0 cv_X0_19_X1 rfl (zcko e1) (m_X1_area C0.2.2.2.2.2.2.1 e3) (by decide) (by decide) rfl rfl (Nat.le_of_ble_eq_true rfl) dX0_area_4 rfl ?_
    refine zr_i2l C0 dX0_area_7 ?_
    obtain ⟨h7, e8, hf⟩ := zbind hf
    refine zr_last C0 dX0_area_8 e8 ?_
    refine zr_goto C0 (tgt := 15) dX0_area_9 (by decide) ?_
    refine zr_iconst C0 (v := 0) dX0_area_15 (by decide) ?_
    refine zretW hf ?_
    exact zr_iret C0 (ty := .int) rfl rfl dX0_area_16 rfl
  · have hf := zinr hf
    rcases Decidable.em (q6.1 = 20) with c9 | c9
    · obtain ⟨q1, q2⟩ := q6
      subst c9
      have hf := zif_t rfl hf
      refine zr_callV_t C0 cv_X0_19_X1 rfl (zcko e1) (m_X1_area C0.2.2.2.2.2.2.1 e3) (by decide) (by decide) rfl rfl (Nat.le_of_ble_eq_true rfl) dX0_area_4 (zr_catch C0 (tableOf []) ⟨0, 9, 12, 22⟩ (tableOf []) (by rw [ht]; rfl) rfl (fun z hz => by cases hz) (by decide) (by decide) q2014 q787 ?_)
      refine zr_sub [] rfl ?_
      exact w_X0_area_b12 C0 ht hf
    have hf := zif_f c9 hf
    cases hf
def f_X0_area (E : zE) (p0 : Nat) (p1 : Int32) (p2 : Nat) (h : zH) : Option (Int32 × zH) := f_X0_area_b0 E p0 p1 p2 h
theorem m_X0_area {l : Launch} (hst : l.stackTraces = false) {D : zD} {B0 : Nat} {E : zE} {p0 : Nat} {p1 : Int32} {p2 : Nat} {h h' : zH} {r : Int32} (hf : f_X0_area E p0 p1 p2 h = some (r, h')) : zMet l yX0_area (wsW_ yX0_area cX0_area 4 (Option.some Jvm.ClassFile.FieldType.int) [((0 : Nat), (9 : Nat), (12 : Nat), (22 : Nat))]) 11 175 D B0 E [.ref p0, .int p1, .ref p2] h (zoI r) h' := by
  unfold f_X0_area at hf
  refine zMet_ofH hst (by decide +kernel) rfl rfl (Nat.le_of_ble_eq_true rfl) (fun p e R s m below meth c C0 ht => ?_)
  show zW _ _ _ _ _ _ _ _ _ _ _ _ _ _ _ _ [(0, .ref p0), (1, .int p1), (2, .ref p2)] []
  exact w_X0_area_b0 C0 ht hf
def f_X0_perimeter_b12 (E : zE) (s0 : Nat) (h : zH) : Option (Int32 × zH) :=
  some ((1 : Int32), h)
theorem w_X0_perimeter_b12 (C0 : zCx p l e R s m args below meth c D B0 4 "FranchiseLedgerLaw" cX0_perimeter E 11 175 (Option.some Jvm.ClassFile.FieldType.int) "perimeter") (ht : c.exceptionTable.toList = tableOf [((0 : Nat), (9 : Nat), (12 : Nat), (22 : Nat))]) {r : Int32} {h' : zH} {s0 : Nat} {h : zH} (hf : f_X0_perimeter_b12 E s0 h = some (r, h')) : zW p l e R s m args below meth c D B0 4 (zEnd D B0 R below args s (zoI r) h') h 12 [] [.ref s0] := by
  unfold f_X0_perimeter_b12 at hf
  refine zr_astore_n (i := 3) (lv' := [(3, .ref s0)]) C0 dX0_perimeter_12 rfl (by decide) (by first | rfl | simp [zst1, zst2, zcat_rf]) ?_
  refine zr_iconst C0 (v := 1) dX0_perimeter_13 (by decide) ?_
  refine zretW hf ?_
  exact zr_iret C0 (ty := .int) rfl rfl dX0_perimeter_14 rfl
def f_X0_perimeter_b0 (E : zE) (p0 : Nat) (p1 : Int32) (p2 : Nat) (h : zH) : Option (Int32 × zH) :=
  (cko h p0 0).bind fun _ =>
  bnd2 (f_X1_perimeter E p0 p1 h) fun x4 h2 =>
  Sum.elim (fun x5 => (
    (sL h2 p2 (0 : Int32) (x5.toInt64)).bind fun h7 =>
    some ((0 : Int32), h7)
  )) (fun q6 => (
    if q6.1 = 20 then (
      f_X0_perimeter_b12 E q6.2 h2
    ) else (
    none
    )
  )) x4
theorem w_X0_perimeter_b0 (C0 : zCx p l e R s m args below meth c D B0 4 "FranchiseLedgerLaw" cX0_perimeter E 11 175 (Option.some Jvm.ClassFile.FieldType.int) "perimeter") (ht : c.exceptionTable.toList = tableOf [((0 : Nat), (9 : Nat), (12 : Nat), (22 : Nat))]) {r : Int32} {h' : zH} {p0 : Nat} {p1 : Int32} {p2 : Nat} {h : zH} (hf : f_X0_perimeter_b0 E p0 p1 p2 h = some (r, h')) : zW p l e R s m args below meth c D B0 4 (zEnd D B0 R below args s (zoI r) h') h 0 [(0, .ref p0), (1, .int p1), (2, .ref p2)] [] := by
  unfold f_X0_perimeter_b0 at hf
  refine zr_aload_n C0 dX0_perimeter_0 rfl 2 rfl ?_
  refine zr_iconst C0 (v := 0) dX0_perimeter_1 (by decide) ?_
  refine zr_aload_n C0 dX0_perimeter_2 rfl 0 rfl ?_
  refine zr_iload_n C0 dX0_perimeter_3 rfl 1 rfl ?_
  obtain ⟨_, e1, hf⟩ := zbind hf
  obtain ⟨x4, h2, e3, hf⟩ := zbind2 hf
  rcases x4 with x5 | q6
  · have hf := zinl hf
    refine zr_callV_r C0 cv_X0_24_X1 rfl (zcko e1) (m_X1_perimeter C0.2.2.2.2.2.2.1 e3) (by decide) (by decide) rfl rfl (Nat.le_of_ble_eq_true rfl) dX0_perimeter_4 rfl ?_
    refine zr_i2l C0 dX0_perimeter_7 ?_
    obtain ⟨h7, e8, hf⟩ := zbind hf
    refine zr_last C0 dX0_perimeter_8 e8 ?_
    refine zr_goto C0 (tgt := 15) dX0_perimeter_9 (by decide) ?_
    refine zr_iconst C0 (v := 0) dX0_perimeter_15 (by decide) ?_
    refine zretW hf ?_
    exact zr_iret C0 (ty := .int) rfl rfl dX0_perimeter_16 rfl
  · have hf := zinr hf
    rcases Decidable.em (q6.1 = 20) with c9 | c9
    · obtain ⟨q1, q2⟩ := q6
      subst c9
      have hf := zif_t rfl hf
      refine zr_callV_t C0 cv_X0_24_X1 rfl (zcko e1) (m_X1_perimeter C0.2.2.2.2.2.2.1 e3) (by decide) (by decide) rfl rfl (Nat.le_of_ble_eq_true rfl) dX0_perimeter_4 (zr_catch C0 (tableOf []) ⟨0, 9, 12, 22⟩ (tableOf []) (by rw [ht]; rfl) rfl (fun z hz => by cases hz) (by decide) (by decide) q2014 q787 ?_)
      refine zr_sub [] rfl ?_
      exact w_X0_perimeter_b12 C0 ht hf
    have hf := zif_f c9 hf
    cases hf
def f_X0_perimeter (E : zE) (p0 : Nat) (p1 : Int32) (p2 : Nat) (h : zH) : Option (Int32 × zH) := f_X0_perimeter_b0 E p0 p1 p2 h
theorem m_X0_perimeter {l : Launch} (hst : l.stackTraces = false) {D : zD} {B0 : Nat} {E : zE} {p0 : Nat} {p1 : Int32} {p2 : Nat} {h h' : zH} {r : Int32} (hf : f_X0_perimeter E p0 p1 p2 h = some (r, h')) : zMet l yX0_perimeter (wsW_ yX0_perimeter cX0_perimeter 4 (Option.some Jvm.ClassFile.FieldType.int) [((0 : Nat), (9 : Nat), (12 : Nat), (22 : Nat))]) 11 175 D B0 E [.ref p0, .int p1, .ref p2] h (zoI r) h' := by
  unfold f_X0_perimeter at hf
  refine zMet_ofH hst (by decide +kernel) rfl rfl (Nat.le_of_ble_eq_true rfl) (fun p e R s m below meth c C0 ht => ?_)
  show zW _ _ _ _ _ _ _ _ _ _ _ _ _ _ _ _ [(0, .ref p0), (1, .int p1), (2, .ref p2)] []
  exact w_X0_perimeter_b0 C0 ht hf
def f_X0_border_b13 (E : zE) (s0 : Nat) (h : zH) : Option (Int32 × zH) :=
  some ((1 : Int32), h)
theorem w_X0_border_b13 (C0 : zCx p l e R s m args below meth c D B0 5 "FranchiseLedgerLaw" cX0_border E 11 176 (Option.some Jvm.ClassFile.FieldType.int) "border") (ht : c.exceptionTable.toList = tableOf [((0 : Nat), (10 : Nat), (13 : Nat), (22 : Nat))]) {r : Int32} {h' : zH} {s0 : Nat} {h : zH} (hf : f_X0_border_b13 E s0 h = some (r, h')) : zW p l e R s m args below meth c D B0 5 (zEnd D B0 R below args s (zoI r) h') h 13 [] [.ref s0] := by
  unfold f_X0_border_b13 at hf
  refine zr_astore (i := 4) (lv' := [(4, .ref s0)]) C0 dX0_border_13 (by decide) (by first | rfl | simp [zst1, zst2, zcat_rf]) ?_
  refine zr_iconst C0 (v := 1) dX0_border_15 (by decide) ?_
  refine zretW hf ?_
  exact zr_iret C0 (ty := .int) rfl rfl dX0_border_16 rfl
def f_X0_border_b0 (E : zE) (p0 : Nat) (p1 : Int32) (p2 : Int32) (p3 : Nat) (h : zH) : Option (Int32 × zH) :=
  (cko h p0 0).bind fun _ =>
  bnd2 (f_X1_border E p0 p1 p2 h) fun x4 h2 =>
  Sum.elim (fun x5 => (
    (sL h2 p3 (0 : Int32) (x5.toInt64)).bind fun h7 =>
    some ((0 : Int32), h7)
  )) (fun q6 => (
    if q6.1 = 20 then (
      f_X0_border_b13 E q6.2 h2
    ) else (
    none
    )
  )) x4
theorem w_X0_border_b0 (C0 : zCx p l e R s m args below meth c D B0 5 "FranchiseLedgerLaw" cX0_border E 11 176 (Option.some Jvm.ClassFile.FieldType.int) "border") (ht : c.exceptionTable.toList = tableOf [((0 : Nat), (10 : Nat), (13 : Nat), (22 : Nat))]) {r : Int32} {h' : zH} {p0 : Nat} {p1 : Int32} {p2 : Int32} {p3 : Nat} {h : zH} (hf : f_X0_border_b0 E p0 p1 p2 p3 h = some (r, h')) : zW p l e R s m args below meth c D B0 5 (zEnd D B0 R below args s (zoI r) h') h 0 [(0, .ref p0), (1, .int p1), (2, .int p2), (3, .ref p3)] [] := by
  unfold f_X0_border_b0 at hf
  refine zr_aload_n C0 dX0_border_0 rfl 3 rfl ?_
  refine zr_iconst C0 (v := 0) dX0_border_1 (by decide) ?_
  refine zr_aload_n C0 dX0_border_2 rfl 0 rfl ?_
  refine zr_iload_n C0 dX0_border_3 rfl 1 rfl ?_
  refine zr_iload_n C0 dX0_border_4 rfl 2 rfl ?_
  obtain ⟨_, e1, hf⟩ := zbind hf
  obtain ⟨x4, h2, e3, hf⟩ := zbind2 hf
  rcases x4 with x5 | q6
  · have hf := zinl hf
    refine zr_callV_r C0 cv_X0_27_X1 rfl (zcko e1) (m_X1_border C0.2.2.2.2.2.2.1 e3) (by decide) (by decide) rfl rfl (Nat.le_of_ble_eq_true rfl) dX0_border_5 rfl ?_
    refine zr_i2l C0 dX0_border_8 ?_
    obtain ⟨h7, e8, hf⟩ := zbind hf
    refine zr_last C0 dX0_border_9 e8 ?_
    refine zr_goto C0 (tgt := 17) dX0_border_10 (by decide) ?_
    refine zr_iconst C0 (v := 0) dX0_border_17 (by decide) ?_
    refine zretW hf ?_
    exact zr_iret C0 (ty := .int) rfl rfl dX0_border_18 rfl
  · have hf := zinr hf
    rcases Decidable.em (q6.1 = 20) with c9 | c9
    · obtain ⟨q1, q2⟩ := q6
      subst c9
      have hf := zif_t rfl hf
      refine zr_callV_t C0 cv_X0_27_X1 rfl (zcko e1) (m_X1_border C0.2.2.2.2.2.2.1 e3) (by decide) (by decide) rfl rfl (Nat.le_of_ble_eq_true rfl) dX0_border_5 (zr_catch C0 (tableOf []) ⟨0, 10, 13, 22⟩ (tableOf []) (by rw [ht]; rfl) rfl (fun z hz => by cases hz) (by decide) (by decide) q2014 q787 ?_)
      refine zr_sub [] rfl ?_
      exact w_X0_border_b13 C0 ht hf
    have hf := zif_f c9 hf
    cases hf
def f_X0_border (E : zE) (p0 : Nat) (p1 : Int32) (p2 : Int32) (p3 : Nat) (h : zH) : Option (Int32 × zH) := f_X0_border_b0 E p0 p1 p2 p3 h
theorem m_X0_border {l : Launch} (hst : l.stackTraces = false) {D : zD} {B0 : Nat} {E : zE} {p0 : Nat} {p1 : Int32} {p2 : Int32} {p3 : Nat} {h h' : zH} {r : Int32} (hf : f_X0_border E p0 p1 p2 p3 h = some (r, h')) : zMet l yX0_border (wsW_ yX0_border cX0_border 5 (Option.some Jvm.ClassFile.FieldType.int) [((0 : Nat), (10 : Nat), (13 : Nat), (22 : Nat))]) 11 176 D B0 E [.ref p0, .int p1, .int p2, .ref p3] h (zoI r) h' := by
  unfold f_X0_border at hf
  refine zMet_ofH hst (by decide +kernel) rfl rfl (Nat.le_of_ble_eq_true rfl) (fun p e R s m below meth c C0 ht => ?_)
  show zW _ _ _ _ _ _ _ _ _ _ _ _ _ _ _ _ [(0, .ref p0), (1, .int p1), (2, .int p2), (3, .ref p3)] []
  exact w_X0_border_b0 C0 ht hf
def f_X0_isConnected_b19 (E : zE) (s0 : Nat) (h : zH) : Option (Int32 × zH) :=
  some ((1 : Int32), h)
theorem w_X0_isConnected_b19 (C0 : zCx p l e R s m args below meth c D B0 4 "FranchiseLedgerLaw" cX0_isConnected E 11 175 (Option.some Jvm.ClassFile.FieldType.int) "isConnected") (ht : c.exceptionTable.toList = tableOf [((0 : Nat), (16 : Nat), (19 : Nat), (22 : Nat))]) {r : Int32} {h' : zH} {s0 : Nat} {h : zH} (hf : f_X0_isConnected_b19 E s0 h = some (r, h')) : zW p l e R s m args below meth c D B0 4 (zEnd D B0 R below args s (zoI r) h') h 19 [] [.ref s0] := by
  unfold f_X0_isConnected_b19 at hf
  refine zr_astore_n (i := 3) (lv' := [(3, .ref s0)]) C0 dX0_isConnected_19 rfl (by decide) (by first | rfl | simp [zst1, zst2, zcat_rf]) ?_
  refine zr_iconst C0 (v := 1) dX0_isConnected_20 (by decide) ?_
  refine zretW hf ?_
  exact zr_iret C0 (ty := .int) rfl rfl dX0_isConnected_21 rfl
def f_X0_isConnected_b15 (E : zE) (s0 : Nat) (s1 : Int32) (s2 : Int64) (h : zH) : Option (Int32 × zH) :=
  (sL h s0 s1 s2).bind fun h1 =>
  some ((0 : Int32), h1)
theorem w_X0_isConnected_b15 (C0 : zCx p l e R s m args below meth c D B0 4 "FranchiseLedgerLaw" cX0_isConnected E 11 175 (Option.some Jvm.ClassFile.FieldType.int) "isConnected") (ht : c.exceptionTable.toList = tableOf [((0 : Nat), (16 : Nat), (19 : Nat), (22 : Nat))]) {r : Int32} {h' : zH} {s0 : Nat} {s1 : Int32} {s2 : Int64} {h : zH} (hf : f_X0_isConnected_b15 E s0 s1 s2 h = some (r, h')) : zW p l e R s m args below meth c D B0 4 (zEnd D B0 R below args s (zoI r) h') h 15 [] [.long s2, .int s1, .ref s0] := by
  unfold f_X0_isConnected_b15 at hf
  obtain ⟨h1, e2, hf⟩ := zbind hf
  refine zr_last C0 dX0_isConnected_15 e2 ?_
  refine zr_goto C0 (tgt := 22) dX0_isConnected_16 (by decide) ?_
  refine zr_iconst C0 (v := 0) dX0_isConnected_22 (by decide) ?_
  refine zretW hf ?_
  exact zr_iret C0 (ty := .int) rfl rfl dX0_isConnected_23 rfl
def f_X0_isConnected_b0 (E : zE) (p0 : Nat) (p1 : Int32) (p2 : Nat) (h : zH) : Option (Int32 × zH) :=
  (cko h p0 0).bind fun _ =>
  bnd2 (f_X1_isConnected E p0 p1 h) fun x4 h2 =>
  Sum.elim (fun x5 => (
    if x5 = 0 then (
      f_X0_isConnected_b15 E p2 (0 : Int32) (0 : Int64) h2
    ) else (
      f_X0_isConnected_b15 E p2 (0 : Int32) (1 : Int64) h2
    )
  )) (fun q6 => (
    if q6.1 = 20 then (
      f_X0_isConnected_b19 E q6.2 h2
    ) else (
    none
    )
  )) x4
theorem w_X0_isConnected_b0 (C0 : zCx p l e R s m args below meth c D B0 4 "FranchiseLedgerLaw" cX0_isConnected E 11 175 (Option.some Jvm.ClassFile.FieldType.int) "isConnected") (ht : c.exceptionTable.toList = tableOf [((0 : Nat), (16 : Nat), (19 : Nat), (22 : Nat))]) {r : Int32} {h' : zH} {p0 : Nat} {p1 : Int32} {p2 : Nat} {h : zH} (hf : f_X0_isConnected_b0 E p0 p1 p2 h = some (r, h')) : zW p l e R s m args below meth c D B0 4 (zEnd D B0 R below args s (zoI r) h') h 0 [(0, .ref p0), (1, .int p1), (2, .ref p2)] [] := by
  unfold f_X0_isConnected_b0 at hf
  refine zr_aload_n C0 dX0_isConnected_0 rfl 2 rfl ?_
  refine zr_iconst C0 (v := 0) dX0_isConnected_1 (by decide) ?_
  refine zr_aload_n C0 dX0_isConnected_2 rfl 0 rfl ?_
  refine zr_iload_n C0 dX0_isConnected_3 rfl 1 rfl ?_
  obtain ⟨_, e1, hf⟩ := zbind hf
  obtain ⟨x4, h2, e3, hf⟩ := zbind2 hf
  rcases x4 with x5 | q6
  · have hf := zinl hf
    refine zr_callV_r C0 cv_X0_30_X1 rfl (zcko e1) (m_X1_isConnected C0.2.2.2.2.2.2.1 e3) (by decide) (by decide) rfl rfl (Nat.le_of_ble_eq_true rfl) dX0_isConnected_4 rfl ?_
    refine zr_if_eq C0 (tgt := 14) dX0_isConnected_7 (by decide) (fun c7 => ?_) (fun c7 => ?_)
    · have hf := zif_t c7 hf
      refine zr_lconst C0 (v := 0) dX0_isConnected_14 (by decide) ?_
      refine zr_sub [] rfl ?_
      exact w_X0_isConnected_b15 C0 ht hf
    · have hf := zif_f c7 hf
      refine zr_lconst C0 (v := 1) dX0_isConnected_10 (by decide) ?_
      refine zr_goto C0 (tgt := 15) dX0_isConnected_11 (by decide) ?_
      refine zr_sub [] rfl ?_
      exact w_X0_isConnected_b15 C0 ht hf
  · have hf := zinr hf
    rcases Decidable.em (q6.1 = 20) with c8 | c8
    · obtain ⟨q1, q2⟩ := q6
      subst c8
      have hf := zif_t rfl hf
      refine zr_callV_t C0 cv_X0_30_X1 rfl (zcko e1) (m_X1_isConnected C0.2.2.2.2.2.2.1 e3) (by decide) (by decide) rfl rfl (Nat.le_of_ble_eq_true rfl) dX0_isConnected_4 (zr_catch C0 (tableOf []) ⟨0, 16, 19, 22⟩ (tableOf []) (by rw [ht]; rfl) rfl (fun z hz => by cases hz) (by decide) (by decide) q2014 q787 ?_)
      refine zr_sub [] rfl ?_
      exact w_X0_isConnected_b19 C0 ht hf
    have hf := zif_f c8 hf
    cases hf
def f_X0_isConnected (E : zE) (p0 : Nat) (p1 : Int32) (p2 : Nat) (h : zH) : Option (Int32 × zH) := f_X0_isConnected_b0 E p0 p1 p2 h
theorem m_X0_isConnected {l : Launch} (hst : l.stackTraces = false) {D : zD} {B0 : Nat} {E : zE} {p0 : Nat} {p1 : Int32} {p2 : Nat} {h h' : zH} {r : Int32} (hf : f_X0_isConnected E p0 p1 p2 h = some (r, h')) : zMet l yX0_isConnected (wsW_ yX0_isConnected cX0_isConnected 4 (Option.some Jvm.ClassFile.FieldType.int) [((0 : Nat), (16 : Nat), (19 : Nat), (22 : Nat))]) 11 175 D B0 E [.ref p0, .int p1, .ref p2] h (zoI r) h' := by
  unfold f_X0_isConnected at hf
  refine zMet_ofH hst (by decide +kernel) rfl rfl (Nat.le_of_ble_eq_true rfl) (fun p e R s m below meth c C0 ht => ?_)
  show zW _ _ _ _ _ _ _ _ _ _ _ _ _ _ _ _ [(0, .ref p0), (1, .int p1), (2, .ref p2)] []
  exact w_X0_isConnected_b0 C0 ht hf
def f_X0_distance_b15 (E : zE) (s0 : Nat) (h : zH) : Option (Int32 × zH) :=
  some ((1 : Int32), h)
theorem w_X0_distance_b15 (C0 : zCx p l e R s m args below meth c D B0 6 "FranchiseLedgerLaw" cX0_distance E 11 177 (Option.some Jvm.ClassFile.FieldType.int) "distance") (ht : c.exceptionTable.toList = tableOf [((0 : Nat), (12 : Nat), (15 : Nat), (22 : Nat)), ((0 : Nat), (12 : Nat), (19 : Nat), (13 : Nat))]) {r : Int32} {h' : zH} {s0 : Nat} {h : zH} (hf : f_X0_distance_b15 E s0 h = some (r, h')) : zW p l e R s m args below meth c D B0 6 (zEnd D B0 R below args s (zoI r) h') h 15 [] [.ref s0] := by
  unfold f_X0_distance_b15 at hf
  refine zr_astore (i := 5) (lv' := [(5, .ref s0)]) C0 dX0_distance_15 (by decide) (by first | rfl | simp [zst1, zst2, zcat_rf]) ?_
  refine zr_iconst C0 (v := 1) dX0_distance_17 (by decide) ?_
  refine zretW hf ?_
  exact zr_iret C0 (ty := .int) rfl rfl dX0_distance_18 rfl
def f_X0_distance_b19 (E : zE) (s0 : Nat) (h : zH) : Option (Int32 × zH) :=
  some ((2 : Int32), h)
theorem w_X0_distance_b19 (C0 : zCx p l e R s m args below meth c D B0 6 "FranchiseLedgerLaw" cX0_distance E 11 177 (Option.some Jvm.ClassFile.FieldType.int) "distance") (ht : c.exceptionTable.toList = tableOf [((0 : Nat), (12 : Nat), (15 : Nat), (22 : Nat)), ((0 : Nat), (12 : Nat), (19 : Nat), (13 : Nat))]) {r : Int32} {h' : zH} {s0 : Nat} {h : zH} (hf : f_X0_distance_b19 E s0 h = some (r, h')) : zW p l e R s m args below meth c D B0 6 (zEnd D B0 R below args s (zoI r) h') h 19 [] [.ref s0] := by
  unfold f_X0_distance_b19 at hf
  refine zr_astore (i := 5) (lv' := [(5, .ref s0)]) C0 dX0_distance_19 (by decide) (by first | rfl | simp [zst1, zst2, zcat_rf]) ?_
  refine zr_iconst C0 (v := 2) dX0_distance_21 (by decide) ?_
  refine zretW hf ?_
  exact zr_iret C0 (ty := .int) rfl rfl dX0_distance_22 rfl
def f_X0_distance_b0 (E : zE) (p0 : Nat) (p1 : Int32) (p2 : Int32) (p3 : Int32) (p4 : Nat) (h : zH) : Option (Int32 × zH) :=
  (cko h p0 0).bind fun _ =>
  bnd2 (f_X1_distance E p0 p1 p2 p3 h) fun x4 h2 =>
  Sum.elim (fun x5 => (
    (sL h2 p4 (0 : Int32) (x5.toInt64)).bind fun h7 =>
    some ((0 : Int32), h7)
  )) (fun q6 => (
    if q6.1 = 20 then (
      f_X0_distance_b15 E q6.2 h2
    ) else (
    if q6.1 = 21 then (
      f_X0_distance_b19 E q6.2 h2
    ) else (
    none
    ))
  )) x4
theorem w_X0_distance_b0 (C0 : zCx p l e R s m args below meth c D B0 6 "FranchiseLedgerLaw" cX0_distance E 11 177 (Option.some Jvm.ClassFile.FieldType.int) "distance") (ht : c.exceptionTable.toList = tableOf [((0 : Nat), (12 : Nat), (15 : Nat), (22 : Nat)), ((0 : Nat), (12 : Nat), (19 : Nat), (13 : Nat))]) {r : Int32} {h' : zH} {p0 : Nat} {p1 : Int32} {p2 : Int32} {p3 : Int32} {p4 : Nat} {h : zH} (hf : f_X0_distance_b0 E p0 p1 p2 p3 p4 h = some (r, h')) : zW p l e R s m args below meth c D B0 6 (zEnd D B0 R below args s (zoI r) h') h 0 [(0, .ref p0), (1, .int p1), (2, .int p2), (3, .int p3), (4, .ref p4)] [] := by
  unfold f_X0_distance_b0 at hf
  refine zr_aload C0 dX0_distance_0 4 rfl ?_
  refine zr_iconst C0 (v := 0) dX0_distance_2 (by decide) ?_
  refine zr_aload_n C0 dX0_distance_3 rfl 0 rfl ?_
  refine zr_iload_n C0 dX0_distance_4 rfl 1 rfl ?_
  refine zr_iload_n C0 dX0_distance_5 rfl 2 rfl ?_
  refine zr_iload_n C0 dX0_distance_6 rfl 3 rfl ?_
  obtain ⟨_, e1, hf⟩ := zbind hf
  obtain ⟨x4, h2, e3, hf⟩ := zbind2 hf
  rcases x4 with x5 | q6
  · have hf := zinl hf
    refine zr_callV_r C0 cv_X0_34_X1 rfl (zcko e1) (m_X1_distance C0.2.2.2.2.2.2.1 e3) (by decide) (by decide) rfl rfl (Nat.le_of_ble_eq_true rfl) dX0_distance_7 rfl ?_
    refine zr_i2l C0 dX0_distance_10 ?_
    obtain ⟨h7, e8, hf⟩ := zbind hf
    refine zr_last C0 dX0_distance_11 e8 ?_
    refine zr_goto C0 (tgt := 23) dX0_distance_12 (by decide) ?_
    refine zr_iconst C0 (v := 0) dX0_distance_23 (by decide) ?_
    refine zretW hf ?_
    exact zr_iret C0 (ty := .int) rfl rfl dX0_distance_24 rfl
  · have hf := zinr hf
    rcases Decidable.em (q6.1 = 20) with c9 | c9
    · obtain ⟨q1, q2⟩ := q6
      subst c9
      have hf := zif_t rfl hf
      refine zr_callV_t C0 cv_X0_34_X1 rfl (zcko e1) (m_X1_distance C0.2.2.2.2.2.2.1 e3) (by decide) (by decide) rfl rfl (Nat.le_of_ble_eq_true rfl) dX0_distance_7 (zr_catch C0 (tableOf []) ⟨0, 12, 15, 22⟩ (tableOf [(0, 12, 19, 13)]) (by rw [ht]; rfl) rfl (fun z hz => by cases hz) (by decide) (by decide) q2014 q787 ?_)
      refine zr_sub [] rfl ?_
      exact w_X0_distance_b15 C0 ht hf
    have hf := zif_f c9 hf
    rcases Decidable.em (q6.1 = 21) with c10 | c10
    · obtain ⟨q1, q2⟩ := q6
      subst c10
      have hf := zif_t rfl hf
      refine zr_callV_t C0 cv_X0_34_X1 rfl (zcko e1) (m_X1_distance C0.2.2.2.2.2.2.1 e3) (by decide) (by decide) rfl rfl (Nat.le_of_ble_eq_true rfl) dX0_distance_7 (zr_catch C0 (tableOf [(0, 12, 15, 22)]) ⟨0, 12, 19, 13⟩ (tableOf []) (by rw [ht]; rfl) rfl (show ∀ z ∈ tableOf [(0, 12, 15, 22)], _ from (List.forall_mem_cons.mpr ⟨Or.inr ⟨by decide, "java/lang/IndexOutOfBoundsException", q2014, by decide +kernel⟩, (List.forall_mem_nil _)⟩)) (by decide) (by decide) q1743 q208 ?_)
      refine zr_sub [] rfl ?_
      exact w_X0_distance_b19 C0 ht hf
    have hf := zif_f c10 hf
    cases hf
def f_X0_distance (E : zE) (p0 : Nat) (p1 : Int32) (p2 : Int32) (p3 : Int32) (p4 : Nat) (h : zH) : Option (Int32 × zH) := f_X0_distance_b0 E p0 p1 p2 p3 p4 h
theorem m_X0_distance {l : Launch} (hst : l.stackTraces = false) {D : zD} {B0 : Nat} {E : zE} {p0 : Nat} {p1 : Int32} {p2 : Int32} {p3 : Int32} {p4 : Nat} {h h' : zH} {r : Int32} (hf : f_X0_distance E p0 p1 p2 p3 p4 h = some (r, h')) : zMet l yX0_distance (wsW_ yX0_distance cX0_distance 6 (Option.some Jvm.ClassFile.FieldType.int) [((0 : Nat), (12 : Nat), (15 : Nat), (22 : Nat)), ((0 : Nat), (12 : Nat), (19 : Nat), (13 : Nat))]) 11 177 D B0 E [.ref p0, .int p1, .int p2, .int p3, .ref p4] h (zoI r) h' := by
  unfold f_X0_distance at hf
  refine zMet_ofH hst (by decide +kernel) rfl rfl (Nat.le_of_ble_eq_true rfl) (fun p e R s m below meth c C0 ht => ?_)
  show zW _ _ _ _ _ _ _ _ _ _ _ _ _ _ _ _ [(0, .ref p0), (1, .int p1), (2, .int p2), (3, .int p3), (4, .ref p4)] []
  exact w_X0_distance_b0 C0 ht hf
def f_X0_cede_b21 (E : zE) (s0 : Nat) (h : zH) : Option (Int32 × zH) :=
  some ((1 : Int32), h)
theorem w_X0_cede_b21 (C0 : zCx p l e R s m args below meth c D B0 9 "FranchiseLedgerLaw" cX0_cede E 12 204 (Option.some Jvm.ClassFile.FieldType.int) "cede") (ht : c.exceptionTable.toList = tableOf [((0 : Nat), (18 : Nat), (21 : Nat), (22 : Nat)), ((0 : Nat), (18 : Nat), (25 : Nat), (13 : Nat))]) {r : Int32} {h' : zH} {s0 : Nat} {h : zH} (hf : f_X0_cede_b21 E s0 h = some (r, h')) : zW p l e R s m args below meth c D B0 9 (zEnd D B0 R below args s (zoI r) h') h 21 [] [.ref s0] := by
  unfold f_X0_cede_b21 at hf
  refine zr_astore (i := 8) (lv' := [(8, .ref s0)]) C0 dX0_cede_21 (by decide) (by first | rfl | simp [zst1, zst2, zcat_rf]) ?_
  refine zr_iconst C0 (v := 1) dX0_cede_23 (by decide) ?_
  refine zretW hf ?_
  exact zr_iret C0 (ty := .int) rfl rfl dX0_cede_24 rfl
def f_X0_cede_b25 (E : zE) (s0 : Nat) (h : zH) : Option (Int32 × zH) :=
  some ((2 : Int32), h)
theorem w_X0_cede_b25 (C0 : zCx p l e R s m args below meth c D B0 9 "FranchiseLedgerLaw" cX0_cede E 12 204 (Option.some Jvm.ClassFile.FieldType.int) "cede") (ht : c.exceptionTable.toList = tableOf [((0 : Nat), (18 : Nat), (21 : Nat), (22 : Nat)), ((0 : Nat), (18 : Nat), (25 : Nat), (13 : Nat))]) {r : Int32} {h' : zH} {s0 : Nat} {h : zH} (hf : f_X0_cede_b25 E s0 h = some (r, h')) : zW p l e R s m args below meth c D B0 9 (zEnd D B0 R below args s (zoI r) h') h 25 [] [.ref s0] := by
  unfold f_X0_cede_b25 at hf
  refine zr_astore (i := 8) (lv' := [(8, .ref s0)]) C0 dX0_cede_25 (by decide) (by first | rfl | simp [zst1, zst2, zcat_rf]) ?_
  refine zr_iconst C0 (v := 2) dX0_cede_27 (by decide) ?_
  refine zretW hf ?_
  exact zr_iret C0 (ty := .int) rfl rfl dX0_cede_28 rfl
def f_X0_cede_b0 (E : zE) (p0 : Nat) (p1 : Int32) (p2 : Int32) (p3 : Int32) (p4 : Int32) (p5 : Int32) (p6 : Int32) (p7 : Nat) (h : zH) : Option (Int32 × zH) :=
  (cko h p0 0).bind fun _ =>
  bnd2 (f_X1_cede E p0 p1 p2 p3 p4 p5 p6 h) fun x4 h2 =>
  Sum.elim (fun x5 => (
    (sL h2 p7 (0 : Int32) (x5.toInt64)).bind fun h7 =>
    some ((0 : Int32), h7)
  )) (fun q6 => (
    if q6.1 = 20 then (
      f_X0_cede_b21 E q6.2 h2
    ) else (
    if q6.1 = 21 then (
      f_X0_cede_b25 E q6.2 h2
    ) else (
    none
    ))
  )) x4
theorem w_X0_cede_b0 (C0 : zCx p l e R s m args below meth c D B0 9 "FranchiseLedgerLaw" cX0_cede E 12 204 (Option.some Jvm.ClassFile.FieldType.int) "cede") (ht : c.exceptionTable.toList = tableOf [((0 : Nat), (18 : Nat), (21 : Nat), (22 : Nat)), ((0 : Nat), (18 : Nat), (25 : Nat), (13 : Nat))]) {r : Int32} {h' : zH} {p0 : Nat} {p1 : Int32} {p2 : Int32} {p3 : Int32} {p4 : Int32} {p5 : Int32} {p6 : Int32} {p7 : Nat} {h : zH} (hf : f_X0_cede_b0 E p0 p1 p2 p3 p4 p5 p6 p7 h = some (r, h')) : zW p l e R s m args below meth c D B0 9 (zEnd D B0 R below args s (zoI r) h') h 0 [(0, .ref p0), (1, .int p1), (2, .int p2), (3, .int p3), (4, .int p4), (5, .int p5), (6, .int p6), (7, .ref p7)] [] := by
  unfold f_X0_cede_b0 at hf
  refine zr_aload C0 dX0_cede_0 7 rfl ?_
  refine zr_iconst C0 (v := 0) dX0_cede_2 (by decide) ?_
  refine zr_aload_n C0 dX0_cede_3 rfl 0 rfl ?_
  refine zr_iload_n C0 dX0_cede_4 rfl 1 rfl ?_
  refine zr_iload_n C0 dX0_cede_5 rfl 2 rfl ?_
  refine zr_iload_n C0 dX0_cede_6 rfl 3 rfl ?_
  refine zr_iload C0 dX0_cede_7 4 rfl ?_
  refine zr_iload C0 dX0_cede_9 5 rfl ?_
  refine zr_iload C0 dX0_cede_11 6 rfl ?_
  obtain ⟨_, e1, hf⟩ := zbind hf
  obtain ⟨x4, h2, e3, hf⟩ := zbind2 hf
  rcases x4 with x5 | q6
  · have hf := zinl hf
    refine zr_callV_r C0 cv_X0_38_X1 rfl (zcko e1) (m_X1_cede C0.2.2.2.2.2.2.1 e3) (by decide) (by decide) rfl rfl (Nat.le_of_ble_eq_true rfl) dX0_cede_13 rfl ?_
    refine zr_i2l C0 dX0_cede_16 ?_
    obtain ⟨h7, e8, hf⟩ := zbind hf
    refine zr_last C0 dX0_cede_17 e8 ?_
    refine zr_goto C0 (tgt := 29) dX0_cede_18 (by decide) ?_
    refine zr_iconst C0 (v := 0) dX0_cede_29 (by decide) ?_
    refine zretW hf ?_
    exact zr_iret C0 (ty := .int) rfl rfl dX0_cede_30 rfl
  · have hf := zinr hf
    rcases Decidable.em (q6.1 = 20) with c9 | c9
    · obtain ⟨q1, q2⟩ := q6
      subst c9
      have hf := zif_t rfl hf
      refine zr_callV_t C0 cv_X0_38_X1 rfl (zcko e1) (m_X1_cede C0.2.2.2.2.2.2.1 e3) (by decide) (by decide) rfl rfl (Nat.le_of_ble_eq_true rfl) dX0_cede_13 (zr_catch C0 (tableOf []) ⟨0, 18, 21, 22⟩ (tableOf [(0, 18, 25, 13)]) (by rw [ht]; rfl) rfl (fun z hz => by cases hz) (by decide) (by decide) q2014 q787 ?_)
      refine zr_sub [] rfl ?_
      exact w_X0_cede_b21 C0 ht hf
    have hf := zif_f c9 hf
    rcases Decidable.em (q6.1 = 21) with c10 | c10
    · obtain ⟨q1, q2⟩ := q6
      subst c10
      have hf := zif_t rfl hf
      refine zr_callV_t C0 cv_X0_38_X1 rfl (zcko e1) (m_X1_cede C0.2.2.2.2.2.2.1 e3) (by decide) (by decide) rfl rfl (Nat.le_of_ble_eq_true rfl) dX0_cede_13 (zr_catch C0 (tableOf [(0, 18, 21, 22)]) ⟨0, 18, 25, 13⟩ (tableOf []) (by rw [ht]; rfl) rfl (show ∀ z ∈ tableOf [(0, 18, 21, 22)], _ from (List.forall_mem_cons.mpr ⟨Or.inr ⟨by decide, "java/lang/IndexOutOfBoundsException", q2014, by decide +kernel⟩, (List.forall_mem_nil _)⟩)) (by decide) (by decide) q1743 q208 ?_)
      refine zr_sub [] rfl ?_
      exact w_X0_cede_b25 C0 ht hf
    have hf := zif_f c10 hf
    cases hf
def f_X0_cede (E : zE) (p0 : Nat) (p1 : Int32) (p2 : Int32) (p3 : Int32) (p4 : Int32) (p5 : Int32) (p6 : Int32) (p7 : Nat) (h : zH) : Option (Int32 × zH) := f_X0_cede_b0 E p0 p1 p2 p3 p4 p5 p6 p7 h
theorem m_X0_cede {l : Launch} (hst : l.stackTraces = false) {D : zD} {B0 : Nat} {E : zE} {p0 : Nat} {p1 : Int32} {p2 : Int32} {p3 : Int32} {p4 : Int32} {p5 : Int32} {p6 : Int32} {p7 : Nat} {h h' : zH} {r : Int32} (hf : f_X0_cede E p0 p1 p2 p3 p4 p5 p6 p7 h = some (r, h')) : zMet l yX0_cede (wsW_ yX0_cede cX0_cede 9 (Option.some Jvm.ClassFile.FieldType.int) [((0 : Nat), (18 : Nat), (21 : Nat), (22 : Nat)), ((0 : Nat), (18 : Nat), (25 : Nat), (13 : Nat))]) 12 204 D B0 E [.ref p0, .int p1, .int p2, .int p3, .int p4, .int p5, .int p6, .ref p7] h (zoI r) h' := by
  unfold f_X0_cede at hf
  refine zMet_ofH hst (by decide +kernel) rfl rfl (Nat.le_of_ble_eq_true rfl) (fun p e R s m below meth c C0 ht => ?_)
  show zW _ _ _ _ _ _ _ _ _ _ _ _ _ _ _ _ [(0, .ref p0), (1, .int p1), (2, .int p2), (3, .int p3), (4, .int p4), (5, .int p5), (6, .int p6), (7, .ref p7)] []
  exact w_X0_cede_b0 C0 ht hf
def f_X0_outletOwner_b12 (E : zE) (s0 : Nat) (h : zH) : Option (Int32 × zH) :=
  some ((1 : Int32), h)
theorem w_X0_outletOwner_b12 (C0 : zCx p l e R s m args below meth c D B0 4 "FranchiseLedgerLaw" cX0_outletOwner E 12 196 (Option.some Jvm.ClassFile.FieldType.int) "outletOwner") (ht : c.exceptionTable.toList = tableOf [((0 : Nat), (9 : Nat), (12 : Nat), (22 : Nat))]) {r : Int32} {h' : zH} {s0 : Nat} {h : zH} (hf : f_X0_outletOwner_b12 E s0 h = some (r, h')) : zW p l e R s m args below meth c D B0 4 (zEnd D B0 R below args s (zoI r) h') h 12 [] [.ref s0] := by
  unfold f_X0_outletOwner_b12 at hf
  refine zr_astore_n (i := 3) (lv' := [(3, .ref s0)]) C0 dX0_outletOwner_12 rfl (by decide) (by first | rfl | simp [zst1, zst2, zcat_rf]) ?_
  refine zr_iconst C0 (v := 1) dX0_outletOwner_13 (by decide) ?_
  refine zretW hf ?_
  exact zr_iret C0 (ty := .int) rfl rfl dX0_outletOwner_14 rfl
def f_X0_outletOwner_b0 (E : zE) (p0 : Nat) (p1 : Int32) (p2 : Nat) (h : zH) : Option (Int32 × zH) :=
  (cko h p0 0).bind fun _ =>
  bnd2 (f_X1_outletOwner E p0 p1 h) fun x4 h2 =>
  Sum.elim (fun x5 => (
    (sL h2 p2 (0 : Int32) (x5.toInt64)).bind fun h7 =>
    some ((0 : Int32), h7)
  )) (fun q6 => (
    if q6.1 = 20 then (
      f_X0_outletOwner_b12 E q6.2 h2
    ) else (
    none
    )
  )) x4
theorem w_X0_outletOwner_b0 (C0 : zCx p l e R s m args below meth c D B0 4 "FranchiseLedgerLaw" cX0_outletOwner E 12 196 (Option.some Jvm.ClassFile.FieldType.int) "outletOwner") (ht : c.exceptionTable.toList = tableOf [((0 : Nat), (9 : Nat), (12 : Nat), (22 : Nat))]) {r : Int32} {h' : zH} {p0 : Nat} {p1 : Int32} {p2 : Nat} {h : zH} (hf : f_X0_outletOwner_b0 E p0 p1 p2 h = some (r, h')) : zW p l e R s m args below meth c D B0 4 (zEnd D B0 R below args s (zoI r) h') h 0 [(0, .ref p0), (1, .int p1), (2, .ref p2)] [] := by
  unfold f_X0_outletOwner_b0 at hf
  refine zr_aload_n C0 dX0_outletOwner_0 rfl 2 rfl ?_
  refine zr_iconst C0 (v := 0) dX0_outletOwner_1 (by decide) ?_
  refine zr_aload_n C0 dX0_outletOwner_2 rfl 0 rfl ?_
  refine zr_iload_n C0 dX0_outletOwner_3 rfl 1 rfl ?_
  obtain ⟨_, e1, hf⟩ := zbind hf
  obtain ⟨x4, h2, e3, hf⟩ := zbind2 hf
  rcases x4 with x5 | q6
  · have hf := zinl hf
    refine zr_callV_r C0 cv_X0_42_X1 rfl (zcko e1) (m_X1_outletOwner C0.2.2.2.2.2.2.1 e3) (by decide) (by decide) rfl rfl (Nat.le_of_ble_eq_true rfl) dX0_outletOwner_4 rfl ?_
    refine zr_i2l C0 dX0_outletOwner_7 ?_
    obtain ⟨h7, e8, hf⟩ := zbind hf
    refine zr_last C0 dX0_outletOwner_8 e8 ?_
    refine zr_goto C0 (tgt := 15) dX0_outletOwner_9 (by decide) ?_
    refine zr_iconst C0 (v := 0) dX0_outletOwner_15 (by decide) ?_
    refine zretW hf ?_
    exact zr_iret C0 (ty := .int) rfl rfl dX0_outletOwner_16 rfl
  · have hf := zinr hf
    rcases Decidable.em (q6.1 = 20) with c9 | c9
    · obtain ⟨q1, q2⟩ := q6
      subst c9
      have hf := zif_t rfl hf
      refine zr_callV_t C0 cv_X0_42_X1 rfl (zcko e1) (m_X1_outletOwner C0.2.2.2.2.2.2.1 e3) (by decide) (by decide) rfl rfl (Nat.le_of_ble_eq_true rfl) dX0_outletOwner_4 (zr_catch C0 (tableOf []) ⟨0, 9, 12, 22⟩ (tableOf []) (by rw [ht]; rfl) rfl (fun z hz => by cases hz) (by decide) (by decide) q2014 q787 ?_)
      refine zr_sub [] rfl ?_
      exact w_X0_outletOwner_b12 C0 ht hf
    have hf := zif_f c9 hf
    cases hf
def f_X0_outletOwner (E : zE) (p0 : Nat) (p1 : Int32) (p2 : Nat) (h : zH) : Option (Int32 × zH) := f_X0_outletOwner_b0 E p0 p1 p2 h
theorem m_X0_outletOwner {l : Launch} (hst : l.stackTraces = false) {D : zD} {B0 : Nat} {E : zE} {p0 : Nat} {p1 : Int32} {p2 : Nat} {h h' : zH} {r : Int32} (hf : f_X0_outletOwner E p0 p1 p2 h = some (r, h')) : zMet l yX0_outletOwner (wsW_ yX0_outletOwner cX0_outletOwner 4 (Option.some Jvm.ClassFile.FieldType.int) [((0 : Nat), (9 : Nat), (12 : Nat), (22 : Nat))]) 12 196 D B0 E [.ref p0, .int p1, .ref p2] h (zoI r) h' := by
  unfold f_X0_outletOwner at hf
  refine zMet_ofH hst (by decide +kernel) rfl rfl (Nat.le_of_ble_eq_true rfl) (fun p e R s m below meth c C0 ht => ?_)
  show zW _ _ _ _ _ _ _ _ _ _ _ _ _ _ _ _ [(0, .ref p0), (1, .int p1), (2, .ref p2)] []
  exact w_X0_outletOwner_b0 C0 ht hf
def f_X0_outletCell_b12 (E : zE) (s0 : Nat) (h : zH) : Option (Int32 × zH) :=
  some ((1 : Int32), h)
theorem w_X0_outletCell_b12 (C0 : zCx p l e R s m args below meth c D B0 4 "FranchiseLedgerLaw" cX0_outletCell E 12 196 (Option.some Jvm.ClassFile.FieldType.int) "outletCell") (ht : c.exceptionTable.toList = tableOf [((0 : Nat), (9 : Nat), (12 : Nat), (22 : Nat))]) {r : Int32} {h' : zH} {s0 : Nat} {h : zH} (hf : f_X0_outletCell_b12 E s0 h = some (r, h')) : zW p l e R s m args below meth c D B0 4 (zEnd D B0 R below args s (zoI r) h') h 12 [] [.ref s0] := by
  unfold f_X0_outletCell_b12 at hf
  refine zr_astore_n (i := 3) (lv' := [(3, .ref s0)]) C0 dX0_outletCell_12 rfl (by decide) (by first | rfl | simp [zst1, zst2, zcat_rf]) ?_
  refine zr_iconst C0 (v := 1) dX0_outletCell_13 (by decide) ?_
  refine zretW hf ?_
  exact zr_iret C0 (ty := .int) rfl rfl dX0_outletCell_14 rfl
def f_X0_outletCell_b0 (E : zE) (p0 : Nat) (p1 : Int32) (p2 : Nat) (h : zH) : Option (Int32 × zH) :=
  (cko h p0 0).bind fun _ =>
  bnd2 (f_X1_outletCell E p0 p1 h) fun x4 h2 =>
  Sum.elim (fun x5 => (
    (sL h2 p2 (0 : Int32) (x5.toInt64)).bind fun h7 =>
    some ((0 : Int32), h7)
  )) (fun q6 => (
    if q6.1 = 20 then (
      f_X0_outletCell_b12 E q6.2 h2
    ) else (
    none
    )
  )) x4
theorem w_X0_outletCell_b0 (C0 : zCx p l e R s m args below meth c D B0 4 "FranchiseLedgerLaw" cX0_outletCell E 12 196 (Option.some Jvm.ClassFile.FieldType.int) "outletCell") (ht : c.exceptionTable.toList = tableOf [((0 : Nat), (9 : Nat), (12 : Nat), (22 : Nat))]) {r : Int32} {h' : zH} {p0 : Nat} {p1 : Int32} {p2 : Nat} {h : zH} (hf : f_X0_outletCell_b0 E p0 p1 p2 h = some (r, h')) : zW p l e R s m args below meth c D B0 4 (zEnd D B0 R below args s (zoI r) h') h 0 [(0, .ref p0), (1, .int p1), (2, .ref p2)] [] := by
  unfold f_X0_outletCell_b0 at hf
  refine zr_aload_n C0 dX0_outletCell_0 rfl 2 rfl ?_
  refine zr_iconst C0 (v := 0) dX0_outletCell_1 (by decide) ?_
  refine zr_aload_n C0 dX0_outletCell_2 rfl 0 rfl ?_
  refine zr_iload_n C0 dX0_outletCell_3 rfl 1 rfl ?_
  obtain ⟨_, e1, hf⟩ := zbind hf
  obtain ⟨x4, h2, e3, hf⟩ := zbind2 hf
  rcases x4 with x5 | q6
  · have hf := zinl hf
    refine zr_callV_r C0 cv_X0_45_X1 rfl (zcko e1) (m_X1_outletCell C0.2.2.2.2.2.2.1 e3) (by decide) (by decide) rfl rfl (Nat.le_of_ble_eq_true rfl) dX0_outletCell_4 rfl ?_
    refine zr_i2l C0 dX0_outletCell_7 ?_
    obtain ⟨h7, e8, hf⟩ := zbind hf
    refine zr_last C0 dX0_outletCell_8 e8 ?_
    refine zr_goto C0 (tgt := 15) dX0_outletCell_9 (by decide) ?_
    refine zr_iconst C0 (v := 0) dX0_outletCell_15 (by decide) ?_
    refine zretW hf ?_
    exact zr_iret C0 (ty := .int) rfl rfl dX0_outletCell_16 rfl
  · have hf := zinr hf
    rcases Decidable.em (q6.1 = 20) with c9 | c9
    · obtain ⟨q1, q2⟩ := q6
      subst c9
      have hf := zif_t rfl hf
      refine zr_callV_t C0 cv_X0_45_X1 rfl (zcko e1) (m_X1_outletCell C0.2.2.2.2.2.2.1 e3) (by decide) (by decide) rfl rfl (Nat.le_of_ble_eq_true rfl) dX0_outletCell_4 (zr_catch C0 (tableOf []) ⟨0, 9, 12, 22⟩ (tableOf []) (by rw [ht]; rfl) rfl (fun z hz => by cases hz) (by decide) (by decide) q2014 q787 ?_)
      refine zr_sub [] rfl ?_
      exact w_X0_outletCell_b12 C0 ht hf
    have hf := zif_f c9 hf
    cases hf
def f_X0_outletCell (E : zE) (p0 : Nat) (p1 : Int32) (p2 : Nat) (h : zH) : Option (Int32 × zH) := f_X0_outletCell_b0 E p0 p1 p2 h
theorem m_X0_outletCell {l : Launch} (hst : l.stackTraces = false) {D : zD} {B0 : Nat} {E : zE} {p0 : Nat} {p1 : Int32} {p2 : Nat} {h h' : zH} {r : Int32} (hf : f_X0_outletCell E p0 p1 p2 h = some (r, h')) : zMet l yX0_outletCell (wsW_ yX0_outletCell cX0_outletCell 4 (Option.some Jvm.ClassFile.FieldType.int) [((0 : Nat), (9 : Nat), (12 : Nat), (22 : Nat))]) 12 196 D B0 E [.ref p0, .int p1, .ref p2] h (zoI r) h' := by
  unfold f_X0_outletCell at hf
  refine zMet_ofH hst (by decide +kernel) rfl rfl (Nat.le_of_ble_eq_true rfl) (fun p e R s m below meth c C0 ht => ?_)
  show zW _ _ _ _ _ _ _ _ _ _ _ _ _ _ _ _ [(0, .ref p0), (1, .int p1), (2, .ref p2)] []
  exact w_X0_outletCell_b0 C0 ht hf
def f_X0_openOutlet_b15 (E : zE) (s0 : Nat) (h : zH) : Option (Int32 × zH) :=
  some ((1 : Int32), h)
theorem w_X0_openOutlet_b15 (C0 : zCx p l e R s m args below meth c D B0 6 "FranchiseLedgerLaw" cX0_openOutlet E 12 237 (Option.some Jvm.ClassFile.FieldType.int) "openOutlet") (ht : c.exceptionTable.toList = tableOf [((0 : Nat), (12 : Nat), (15 : Nat), (22 : Nat)), ((0 : Nat), (12 : Nat), (19 : Nat), (13 : Nat))]) {r : Int32} {h' : zH} {s0 : Nat} {h : zH} (hf : f_X0_openOutlet_b15 E s0 h = some (r, h')) : zW p l e R s m args below meth c D B0 6 (zEnd D B0 R below args s (zoI r) h') h 15 [] [.ref s0] := by
  unfold f_X0_openOutlet_b15 at hf
  refine zr_astore (i := 5) (lv' := [(5, .ref s0)]) C0 dX0_openOutlet_15 (by decide) (by first | rfl | simp [zst1, zst2, zcat_rf]) ?_
  refine zr_iconst C0 (v := 1) dX0_openOutlet_17 (by decide) ?_
  refine zretW hf ?_
  exact zr_iret C0 (ty := .int) rfl rfl dX0_openOutlet_18 rfl
def f_X0_openOutlet_b19 (E : zE) (s0 : Nat) (h : zH) : Option (Int32 × zH) :=
  some ((2 : Int32), h)
theorem w_X0_openOutlet_b19 (C0 : zCx p l e R s m args below meth c D B0 6 "FranchiseLedgerLaw" cX0_openOutlet E 12 237 (Option.some Jvm.ClassFile.FieldType.int) "openOutlet") (ht : c.exceptionTable.toList = tableOf [((0 : Nat), (12 : Nat), (15 : Nat), (22 : Nat)), ((0 : Nat), (12 : Nat), (19 : Nat), (13 : Nat))]) {r : Int32} {h' : zH} {s0 : Nat} {h : zH} (hf : f_X0_openOutlet_b19 E s0 h = some (r, h')) : zW p l e R s m args below meth c D B0 6 (zEnd D B0 R below args s (zoI r) h') h 19 [] [.ref s0] := by
  unfold f_X0_openOutlet_b19 at hf
  refine zr_astore (i := 5) (lv' := [(5, .ref s0)]) C0 dX0_openOutlet_19 (by decide) (by first | rfl | simp [zst1, zst2, zcat_rf]) ?_
  refine zr_iconst C0 (v := 2) dX0_openOutlet_21 (by decide) ?_
  refine zretW hf ?_
  exact zr_iret C0 (ty := .int) rfl rfl dX0_openOutlet_22 rfl
def f_X0_openOutlet_b0 (E : zE) (p0 : Nat) (p1 : Int32) (p2 : Int32) (p3 : Int32) (p4 : Nat) (h : zH) : Option (Int32 × zH) :=
  (cko h p0 0).bind fun _ =>
  bnd2 (f_X1_openOutlet E p0 p1 p2 p3 h) fun x4 h2 =>
  Sum.elim (fun x5 => (
    (sL h2 p4 (0 : Int32) (x5.toInt64)).bind fun h7 =>
    some ((0 : Int32), h7)
  )) (fun q6 => (
    if q6.1 = 20 then (
      f_X0_openOutlet_b15 E q6.2 h2
    ) else (
    if q6.1 = 21 then (
      f_X0_openOutlet_b19 E q6.2 h2
    ) else (
    none
    ))
  )) x4
theorem w_X0_openOutlet_b0 (C0 : zCx p l e R s m args below meth c D B0 6 "FranchiseLedgerLaw" cX0_openOutlet E 12 237 (Option.some Jvm.ClassFile.FieldType.int) "openOutlet") (ht : c.exceptionTable.toList = tableOf [((0 : Nat), (12 : Nat), (15 : Nat), (22 : Nat)), ((0 : Nat), (12 : Nat), (19 : Nat), (13 : Nat))]) {r : Int32} {h' : zH} {p0 : Nat} {p1 : Int32} {p2 : Int32} {p3 : Int32} {p4 : Nat} {h : zH} (hf : f_X0_openOutlet_b0 E p0 p1 p2 p3 p4 h = some (r, h')) : zW p l e R s m args below meth c D B0 6 (zEnd D B0 R below args s (zoI r) h') h 0 [(0, .ref p0), (1, .int p1), (2, .int p2), (3, .int p3), (4, .ref p4)] [] := by
  unfold f_X0_openOutlet_b0 at hf
  refine zr_aload C0 dX0_openOutlet_0 4 rfl ?_
  refine zr_iconst C0 (v := 0) dX0_openOutlet_2 (by decide) ?_
  refine zr_aload_n C0 dX0_openOutlet_3 rfl 0 rfl ?_
  refine zr_iload_n C0 dX0_openOutlet_4 rfl 1 rfl ?_
  refine zr_iload_n C0 dX0_openOutlet_5 rfl 2 rfl ?_
  refine zr_iload_n C0 dX0_openOutlet_6 rfl 3 rfl ?_
  obtain ⟨_, e1, hf⟩ := zbind hf
  obtain ⟨x4, h2, e3, hf⟩ := zbind2 hf
  rcases x4 with x5 | q6
  · have hf := zinl hf
    refine zr_callV_r C0 cv_X0_48_X1 rfl (zcko e1) (m_X1_openOutlet C0.2.2.2.2.2.2.1 e3) (by decide) (by decide) rfl rfl (Nat.le_of_ble_eq_true rfl) dX0_openOutlet_7 rfl ?_
    refine zr_i2l C0 dX0_openOutlet_10 ?_
    obtain ⟨h7, e8, hf⟩ := zbind hf
    refine zr_last C0 dX0_openOutlet_11 e8 ?_
    refine zr_goto C0 (tgt := 23) dX0_openOutlet_12 (by decide) ?_
    refine zr_iconst C0 (v := 0) dX0_openOutlet_23 (by decide) ?_
    refine zretW hf ?_
    exact zr_iret C0 (ty := .int) rfl rfl dX0_openOutlet_24 rfl
  · have hf := zinr hf
    rcases Decidable.em (q6.1 = 20) with c9 | c9
    · obtain ⟨q1, q2⟩ := q6
      subst c9
      have hf := zif_t rfl hf
      refine zr_callV_t C0 cv_X0_48_X1 rfl (zcko e1) (m_X1_openOutlet C0.2.2.2.2.2.2.1 e3) (by decide) (by decide) rfl rfl (Nat.le_of_ble_eq_true rfl) dX0_openOutlet_7 (zr_catch C0 (tableOf []) ⟨0, 12, 15, 22⟩ (tableOf [(0, 12, 19, 13)]) (by rw [ht]; rfl) rfl (fun z hz => by cases hz) (by decide) (by decide) q2014 q787 ?_)
      refine zr_sub [] rfl ?_
      exact w_X0_openOutlet_b15 C0 ht hf
    have hf := zif_f c9 hf
    rcases Decidable.em (q6.1 = 21) with c10 | c10
    · obtain ⟨q1, q2⟩ := q6
      subst c10
      have hf := zif_t rfl hf
      refine zr_callV_t C0 cv_X0_48_X1 rfl (zcko e1) (m_X1_openOutlet C0.2.2.2.2.2.2.1 e3) (by decide) (by decide) rfl rfl (Nat.le_of_ble_eq_true rfl) dX0_openOutlet_7 (zr_catch C0 (tableOf [(0, 12, 15, 22)]) ⟨0, 12, 19, 13⟩ (tableOf []) (by rw [ht]; rfl) rfl (show ∀ z ∈ tableOf [(0, 12, 15, 22)], _ from (List.forall_mem_cons.mpr ⟨Or.inr ⟨by decide, "java/lang/IndexOutOfBoundsException", q2014, by decide +kernel⟩, (List.forall_mem_nil _)⟩)) (by decide) (by decide) q1743 q208 ?_)
      refine zr_sub [] rfl ?_
      exact w_X0_openOutlet_b19 C0 ht hf
    have hf := zif_f c10 hf
    cases hf
def f_X0_openOutlet (E : zE) (p0 : Nat) (p1 : Int32) (p2 : Int32) (p3 : Int32) (p4 : Nat) (h : zH) : Option (Int32 × zH) := f_X0_openOutlet_b0 E p0 p1 p2 p3 p4 h
theorem m_X0_openOutlet {l : Launch} (hst : l.stackTraces = false) {D : zD} {B0 : Nat} {E : zE} {p0 : Nat} {p1 : Int32} {p2 : Int32} {p3 : Int32} {p4 : Nat} {h h' : zH} {r : Int32} (hf : f_X0_openOutlet E p0 p1 p2 p3 p4 h = some (r, h')) : zMet l yX0_openOutlet (wsW_ yX0_openOutlet cX0_openOutlet 6 (Option.some Jvm.ClassFile.FieldType.int) [((0 : Nat), (12 : Nat), (15 : Nat), (22 : Nat)), ((0 : Nat), (12 : Nat), (19 : Nat), (13 : Nat))]) 12 237 D B0 E [.ref p0, .int p1, .int p2, .int p3, .ref p4] h (zoI r) h' := by
  unfold f_X0_openOutlet at hf
  refine zMet_ofH hst (by decide +kernel) rfl rfl (Nat.le_of_ble_eq_true rfl) (fun p e R s m below meth c C0 ht => ?_)
  show zW _ _ _ _ _ _ _ _ _ _ _ _ _ _ _ _ [(0, .ref p0), (1, .int p1), (2, .int p2), (3, .int p3), (4, .ref p4)] []
  exact w_X0_openOutlet_b0 C0 ht hf
def f_X0_bestSite_b12 (E : zE) (s0 : Nat) (h : zH) : Option (Int32 × zH) :=
  some ((1 : Int32), h)
theorem w_X0_bestSite_b12 (C0 : zCx p l e R s m args below meth c D B0 4 "FranchiseLedgerLaw" cX0_bestSite E 11 179 (Option.some Jvm.ClassFile.FieldType.int) "bestSite") (ht : c.exceptionTable.toList = tableOf [((0 : Nat), (9 : Nat), (12 : Nat), (22 : Nat))]) {r : Int32} {h' : zH} {s0 : Nat} {h : zH} (hf : f_X0_bestSite_b12 E s0 h = some (r, h')) : zW p l e R s m args below meth c D B0 4 (zEnd D B0 R below args s (zoI r) h') h 12 [] [.ref s0] := by
  unfold f_X0_bestSite_b12 at hf
  refine zr_astore_n (i := 3) (lv' := [(3, .ref s0)]) C0 dX0_bestSite_12 rfl (by decide) (by first | rfl | simp [zst1, zst2, zcat_rf]) ?_
  refine zr_iconst C0 (v := 1) dX0_bestSite_13 (by decide) ?_
  refine zretW hf ?_
  exact zr_iret C0 (ty := .int) rfl rfl dX0_bestSite_14 rfl
def f_X0_bestSite_b0 (E : zE) (p0 : Nat) (p1 : Int32) (p2 : Nat) (h : zH) : Option (Int32 × zH) :=
  (cko h p0 0).bind fun _ =>
  bnd2 (f_X1_bestSite E p0 p1 h) fun x4 h2 =>
  Sum.elim (fun x5 => (
    (sL h2 p2 (0 : Int32) (x5.toInt64)).bind fun h7 =>
    some ((0 : Int32), h7)
  )) (fun q6 => (
    if q6.1 = 20 then (
      f_X0_bestSite_b12 E q6.2 h2
    ) else (
    none
    )
  )) x4
theorem w_X0_bestSite_b0 (C0 : zCx p l e R s m args below meth c D B0 4 "FranchiseLedgerLaw" cX0_bestSite E 11 179 (Option.some Jvm.ClassFile.FieldType.int) "bestSite") (ht : c.exceptionTable.toList = tableOf [((0 : Nat), (9 : Nat), (12 : Nat), (22 : Nat))]) {r : Int32} {h' : zH} {p0 : Nat} {p1 : Int32} {p2 : Nat} {h : zH} (hf : f_X0_bestSite_b0 E p0 p1 p2 h = some (r, h')) : zW p l e R s m args below meth c D B0 4 (zEnd D B0 R below args s (zoI r) h') h 0 [(0, .ref p0), (1, .int p1), (2, .ref p2)] [] := by
  unfold f_X0_bestSite_b0 at hf
  refine zr_aload_n C0 dX0_bestSite_0 rfl 2 rfl ?_
  refine zr_iconst C0 (v := 0) dX0_bestSite_1 (by decide) ?_
  refine zr_aload_n C0 dX0_bestSite_2 rfl 0 rfl ?_
  refine zr_iload_n C0 dX0_bestSite_3 rfl 1 rfl ?_
  obtain ⟨_, e1, hf⟩ := zbind hf
  obtain ⟨x4, h2, e3, hf⟩ := zbind2 hf
  rcases x4 with x5 | q6
  · have hf := zinl hf
    refine zr_callV_r C0 cv_X0_51_X1 rfl (zcko e1) (m_X1_bestSite C0.2.2.2.2.2.2.1 e3) (by decide) (by decide) rfl rfl (Nat.le_of_ble_eq_true rfl) dX0_bestSite_4 rfl ?_
    refine zr_i2l C0 dX0_bestSite_7 ?_
    obtain ⟨h7, e8, hf⟩ := zbind hf
    refine zr_last C0 dX0_bestSite_8 e8 ?_
    refine zr_goto C0 (tgt := 15) dX0_bestSite_9 (by decide) ?_
    refine zr_iconst C0 (v := 0) dX0_bestSite_15 (by decide) ?_
    refine zretW hf ?_
    exact zr_iret C0 (ty := .int) rfl rfl dX0_bestSite_16 rfl
  · have hf := zinr hf
    rcases Decidable.em (q6.1 = 20) with c9 | c9
    · obtain ⟨q1, q2⟩ := q6
      subst c9
      have hf := zif_t rfl hf
      refine zr_callV_t C0 cv_X0_51_X1 rfl (zcko e1) (m_X1_bestSite C0.2.2.2.2.2.2.1 e3) (by decide) (by decide) rfl rfl (Nat.le_of_ble_eq_true rfl) dX0_bestSite_4 (zr_catch C0 (tableOf []) ⟨0, 9, 12, 22⟩ (tableOf []) (by rw [ht]; rfl) rfl (fun z hz => by cases hz) (by decide) (by decide) q2014 q787 ?_)
      refine zr_sub [] rfl ?_
      exact w_X0_bestSite_b12 C0 ht hf
    have hf := zif_f c9 hf
    cases hf
def f_X0_bestSite (E : zE) (p0 : Nat) (p1 : Int32) (p2 : Nat) (h : zH) : Option (Int32 × zH) := f_X0_bestSite_b0 E p0 p1 p2 h
theorem m_X0_bestSite {l : Launch} (hst : l.stackTraces = false) {D : zD} {B0 : Nat} {E : zE} {p0 : Nat} {p1 : Int32} {p2 : Nat} {h h' : zH} {r : Int32} (hf : f_X0_bestSite E p0 p1 p2 h = some (r, h')) : zMet l yX0_bestSite (wsW_ yX0_bestSite cX0_bestSite 4 (Option.some Jvm.ClassFile.FieldType.int) [((0 : Nat), (9 : Nat), (12 : Nat), (22 : Nat))]) 11 179 D B0 E [.ref p0, .int p1, .ref p2] h (zoI r) h' := by
  unfold f_X0_bestSite at hf
  refine zMet_ofH hst (by decide +kernel) rfl rfl (Nat.le_of_ble_eq_true rfl) (fun p e R s m below meth c C0 ht => ?_)
  show zW _ _ _ _ _ _ _ _ _ _ _ _ _ _ _ _ [(0, .ref p0), (1, .int p1), (2, .ref p2)] []
  exact w_X0_bestSite_b0 C0 ht hf
def f_X0_coverage_b13 (E : zE) (s0 : Nat) (h : zH) : Option (Int32 × zH) :=
  some ((1 : Int32), h)
theorem w_X0_coverage_b13 (C0 : zCx p l e R s m args below meth c D B0 5 "FranchiseLedgerLaw" cX0_coverage E 11 178 (Option.some Jvm.ClassFile.FieldType.int) "coverage") (ht : c.exceptionTable.toList = tableOf [((0 : Nat), (10 : Nat), (13 : Nat), (22 : Nat)), ((0 : Nat), (10 : Nat), (17 : Nat), (13 : Nat))]) {r : Int32} {h' : zH} {s0 : Nat} {h : zH} (hf : f_X0_coverage_b13 E s0 h = some (r, h')) : zW p l e R s m args below meth c D B0 5 (zEnd D B0 R below args s (zoI r) h') h 13 [] [.ref s0] := by
  unfold f_X0_coverage_b13 at hf
  refine zr_astore (i := 4) (lv' := [(4, .ref s0)]) C0 dX0_coverage_13 (by decide) (by first | rfl | simp [zst1, zst2, zcat_rf]) ?_
  refine zr_iconst C0 (v := 1) dX0_coverage_15 (by decide) ?_
  refine zretW hf ?_
  exact zr_iret C0 (ty := .int) rfl rfl dX0_coverage_16 rfl
def f_X0_coverage_b17 (E : zE) (s0 : Nat) (h : zH) : Option (Int32 × zH) :=
  some ((2 : Int32), h)
theorem w_X0_coverage_b17 (C0 : zCx p l e R s m args below meth c D B0 5 "FranchiseLedgerLaw" cX0_coverage E 11 178 (Option.some Jvm.ClassFile.FieldType.int) "coverage") (ht : c.exceptionTable.toList = tableOf [((0 : Nat), (10 : Nat), (13 : Nat), (22 : Nat)), ((0 : Nat), (10 : Nat), (17 : Nat), (13 : Nat))]) {r : Int32} {h' : zH} {s0 : Nat} {h : zH} (hf : f_X0_coverage_b17 E s0 h = some (r, h')) : zW p l e R s m args below meth c D B0 5 (zEnd D B0 R below args s (zoI r) h') h 17 [] [.ref s0] := by
  unfold f_X0_coverage_b17 at hf
  refine zr_astore (i := 4) (lv' := [(4, .ref s0)]) C0 dX0_coverage_17 (by decide) (by first | rfl | simp [zst1, zst2, zcat_rf]) ?_
  refine zr_iconst C0 (v := 2) dX0_coverage_19 (by decide) ?_
  refine zretW hf ?_
  exact zr_iret C0 (ty := .int) rfl rfl dX0_coverage_20 rfl
def f_X0_coverage_b0 (E : zE) (p0 : Nat) (p1 : Int32) (p2 : Int32) (p3 : Nat) (h : zH) : Option (Int32 × zH) :=
  (cko h p0 0).bind fun _ =>
  bnd2 (f_X1_coverage E p0 p1 p2 h) fun x4 h2 =>
  Sum.elim (fun x5 => (
    (sL h2 p3 (0 : Int32) (x5.toInt64)).bind fun h7 =>
    some ((0 : Int32), h7)
  )) (fun q6 => (
    if q6.1 = 20 then (
      f_X0_coverage_b13 E q6.2 h2
    ) else (
    if q6.1 = 21 then (
      f_X0_coverage_b17 E q6.2 h2
    ) else (
    none
    ))
  )) x4
theorem w_X0_coverage_b0 (C0 : zCx p l e R s m args below meth c D B0 5 "FranchiseLedgerLaw" cX0_coverage E 11 178 (Option.some Jvm.ClassFile.FieldType.int) "coverage") (ht : c.exceptionTable.toList = tableOf [((0 : Nat), (10 : Nat), (13 : Nat), (22 : Nat)), ((0 : Nat), (10 : Nat), (17 : Nat), (13 : Nat))]) {r : Int32} {h' : zH} {p0 : Nat} {p1 : Int32} {p2 : Int32} {p3 : Nat} {h : zH} (hf : f_X0_coverage_b0 E p0 p1 p2 p3 h = some (r, h')) : zW p l e R s m args below meth c D B0 5 (zEnd D B0 R below args s (zoI r) h') h 0 [(0, .ref p0), (1, .int p1), (2, .int p2), (3, .ref p3)] [] := by
  unfold f_X0_coverage_b0 at hf
  refine zr_aload_n C0 dX0_coverage_0 rfl 3 rfl ?_
  refine zr_iconst C0 (v := 0) dX0_coverage_1 (by decide) ?_
  refine zr_aload_n C0 dX0_coverage_2 rfl 0 rfl ?_
  refine zr_iload_n C0 dX0_coverage_3 rfl 1 rfl ?_
  refine zr_iload_n C0 dX0_coverage_4 rfl 2 rfl ?_
  obtain ⟨_, e1, hf⟩ := zbind hf
  obtain ⟨x4, h2, e3, hf⟩ := zbind2 hf
  rcases x4 with x5 | q6
  · have hf := zinl hf
    refine zr_callV_r C0 cv_X0_54_X1 rfl (zcko e1) (m_X1_coverage C0.2.2.2.2.2.2.1 e3) (by decide) (by decide) rfl rfl (Nat.le_of_ble_eq_true rfl) dX0_coverage_5 rfl ?_
    refine zr_i2l C0 dX0_coverage_8 ?_
    obtain ⟨h7, e8, hf⟩ := zbind hf
    refine zr_last C0 dX0_coverage_9 e8 ?_
    refine zr_goto C0 (tgt := 21) dX0_coverage_10 (by decide) ?_
    refine zr_iconst C0 (v := 0) dX0_coverage_21 (by decide) ?_
    refine zretW hf ?_
    exact zr_iret C0 (ty := .int) rfl rfl dX0_coverage_22 rfl
  · have hf := zinr hf
    rcases Decidable.em (q6.1 = 20) with c9 | c9
    · obtain ⟨q1, q2⟩ := q6
      subst c9
      have hf := zif_t rfl hf
      refine zr_callV_t C0 cv_X0_54_X1 rfl (zcko e1) (m_X1_coverage C0.2.2.2.2.2.2.1 e3) (by decide) (by decide) rfl rfl (Nat.le_of_ble_eq_true rfl) dX0_coverage_5 (zr_catch C0 (tableOf []) ⟨0, 10, 13, 22⟩ (tableOf [(0, 10, 17, 13)]) (by rw [ht]; rfl) rfl (fun z hz => by cases hz) (by decide) (by decide) q2014 q787 ?_)
      refine zr_sub [] rfl ?_
      exact w_X0_coverage_b13 C0 ht hf
    have hf := zif_f c9 hf
    rcases Decidable.em (q6.1 = 21) with c10 | c10
    · obtain ⟨q1, q2⟩ := q6
      subst c10
      have hf := zif_t rfl hf
      refine zr_callV_t C0 cv_X0_54_X1 rfl (zcko e1) (m_X1_coverage C0.2.2.2.2.2.2.1 e3) (by decide) (by decide) rfl rfl (Nat.le_of_ble_eq_true rfl) dX0_coverage_5 (zr_catch C0 (tableOf [(0, 10, 13, 22)]) ⟨0, 10, 17, 13⟩ (tableOf []) (by rw [ht]; rfl) rfl (show ∀ z ∈ tableOf [(0, 10, 13, 22)], _ from (List.forall_mem_cons.mpr ⟨Or.inr ⟨by decide, "java/lang/IndexOutOfBoundsException", q2014, by decide +kernel⟩, (List.forall_mem_nil _)⟩)) (by decide) (by decide) q1743 q208 ?_)
      refine zr_sub [] rfl ?_
      exact w_X0_coverage_b17 C0 ht hf
    have hf := zif_f c10 hf
    cases hf
def f_X0_coverage (E : zE) (p0 : Nat) (p1 : Int32) (p2 : Int32) (p3 : Nat) (h : zH) : Option (Int32 × zH) := f_X0_coverage_b0 E p0 p1 p2 p3 h
theorem m_X0_coverage {l : Launch} (hst : l.stackTraces = false) {D : zD} {B0 : Nat} {E : zE} {p0 : Nat} {p1 : Int32} {p2 : Int32} {p3 : Nat} {h h' : zH} {r : Int32} (hf : f_X0_coverage E p0 p1 p2 p3 h = some (r, h')) : zMet l yX0_coverage (wsW_ yX0_coverage cX0_coverage 5 (Option.some Jvm.ClassFile.FieldType.int) [((0 : Nat), (10 : Nat), (13 : Nat), (22 : Nat)), ((0 : Nat), (10 : Nat), (17 : Nat), (13 : Nat))]) 11 178 D B0 E [.ref p0, .int p1, .int p2, .ref p3] h (zoI r) h' := by
  unfold f_X0_coverage at hf
  refine zMet_ofH hst (by decide +kernel) rfl rfl (Nat.le_of_ble_eq_true rfl) (fun p e R s m below meth c C0 ht => ?_)
  show zW _ _ _ _ _ _ _ _ _ _ _ _ _ _ _ _ [(0, .ref p0), (1, .int p1), (2, .int p2), (3, .ref p3)] []
  exact w_X0_coverage_b0 C0 ht hf
def f_X0_rivalCells_b13 (E : zE) (s0 : Nat) (h : zH) : Option (Int32 × zH) :=
  some ((1 : Int32), h)
theorem w_X0_rivalCells_b13 (C0 : zCx p l e R s m args below meth c D B0 5 "FranchiseLedgerLaw" cX0_rivalCells E 11 178 (Option.some Jvm.ClassFile.FieldType.int) "rivalCells") (ht : c.exceptionTable.toList = tableOf [((0 : Nat), (10 : Nat), (13 : Nat), (22 : Nat)), ((0 : Nat), (10 : Nat), (17 : Nat), (13 : Nat))]) {r : Int32} {h' : zH} {s0 : Nat} {h : zH} (hf : f_X0_rivalCells_b13 E s0 h = some (r, h')) : zW p l e R s m args below meth c D B0 5 (zEnd D B0 R below args s (zoI r) h') h 13 [] [.ref s0] := by
  unfold f_X0_rivalCells_b13 at hf
  refine zr_astore (i := 4) (lv' := [(4, .ref s0)]) C0 dX0_rivalCells_13 (by decide) (by first | rfl | simp [zst1, zst2, zcat_rf]) ?_
  refine zr_iconst C0 (v := 1) dX0_rivalCells_15 (by decide) ?_
  refine zretW hf ?_
  exact zr_iret C0 (ty := .int) rfl rfl dX0_rivalCells_16 rfl
def f_X0_rivalCells_b17 (E : zE) (s0 : Nat) (h : zH) : Option (Int32 × zH) :=
  some ((2 : Int32), h)
theorem w_X0_rivalCells_b17 (C0 : zCx p l e R s m args below meth c D B0 5 "FranchiseLedgerLaw" cX0_rivalCells E 11 178 (Option.some Jvm.ClassFile.FieldType.int) "rivalCells") (ht : c.exceptionTable.toList = tableOf [((0 : Nat), (10 : Nat), (13 : Nat), (22 : Nat)), ((0 : Nat), (10 : Nat), (17 : Nat), (13 : Nat))]) {r : Int32} {h' : zH} {s0 : Nat} {h : zH} (hf : f_X0_rivalCells_b17 E s0 h = some (r, h')) : zW p l e R s m args below meth c D B0 5 (zEnd D B0 R below args s (zoI r) h') h 17 [] [.ref s0] := by
  unfold f_X0_rivalCells_b17 at hf
  refine zr_astore (i := 4) (lv' := [(4, .ref s0)]) C0 dX0_rivalCells_17 (by decide) (by first | rfl | simp [zst1, zst2, zcat_rf]) ?_
  refine zr_iconst C0 (v := 2) dX0_rivalCells_19 (by decide) ?_
  refine zretW hf ?_
  exact zr_iret C0 (ty := .int) rfl rfl dX0_rivalCells_20 rfl
def f_X0_rivalCells_b0 (E : zE) (p0 : Nat) (p1 : Int32) (p2 : Int32) (p3 : Nat) (h : zH) : Option (Int32 × zH) :=
  (cko h p0 0).bind fun _ =>
  bnd2 (f_X1_rivalCells E p0 p1 p2 h) fun x4 h2 =>
  Sum.elim (fun x5 => (
    (sL h2 p3 (0 : Int32) (x5.toInt64)).bind fun h7 =>
    some ((0 : Int32), h7)
  )) (fun q6 => (
    if q6.1 = 20 then (
      f_X0_rivalCells_b13 E q6.2 h2
    ) else (
    if q6.1 = 21 then (
      f_X0_rivalCells_b17 E q6.2 h2
    ) else (
    none
    ))
  )) x4
theorem w_X0_rivalCells_b0 (C0 : zCx p l e R s m args below meth c D B0 5 "FranchiseLedgerLaw" cX0_rivalCells E 11 178 (Option.some Jvm.ClassFile.FieldType.int) "rivalCells") (ht : c.exceptionTable.toList = tableOf [((0 : Nat), (10 : Nat), (13 : Nat), (22 : Nat)), ((0 : Nat), (10 : Nat), (17 : Nat), (13 : Nat))]) {r : Int32} {h' : zH} {p0 : Nat} {p1 : Int32} {p2 : Int32} {p3 : Nat} {h : zH} (hf : f_X0_rivalCells_b0 E p0 p1 p2 p3 h = some (r, h')) : zW p l e R s m args below meth c D B0 5 (zEnd D B0 R below args s (zoI r) h') h 0 [(0, .ref p0), (1, .int p1), (2, .int p2), (3, .ref p3)] [] := by
  unfold f_X0_rivalCells_b0 at hf
  refine zr_aload_n C0 dX0_rivalCells_0 rfl 3 rfl ?_
  refine zr_iconst C0 (v := 0) dX0_rivalCells_1 (by decide) ?_
  refine zr_aload_n C0 dX0_rivalCells_2 rfl 0 rfl ?_
  refine zr_iload_n C0 dX0_rivalCells_3 rfl 1 rfl ?_
  refine zr_iload_n C0 dX0_rivalCells_4 rfl 2 rfl ?_
  obtain ⟨_, e1, hf⟩ := zbind hf
  obtain ⟨x4, h2, e3, hf⟩ := zbind2 hf
  rcases x4 with x5 | q6
  · have hf := zinl hf
    refine zr_callV_r C0 cv_X0_57_X1 rfl (zcko e1) (m_X1_rivalCells C0.2.2.2.2.2.2.1 e3) (by decide) (by decide) rfl rfl (Nat.le_of_ble_eq_true rfl) dX0_rivalCells_5 rfl ?_
    refine zr_i2l C0 dX0_rivalCells_8 ?_
    obtain ⟨h7, e8, hf⟩ := zbind hf
    refine zr_last C0 dX0_rivalCells_9 e8 ?_
    refine zr_goto C0 (tgt := 21) dX0_rivalCells_10 (by decide) ?_
    refine zr_iconst C0 (v := 0) dX0_rivalCells_21 (by decide) ?_
    refine zretW hf ?_
    exact zr_iret C0 (ty := .int) rfl rfl dX0_rivalCells_22 rfl
  · have hf := zinr hf
    rcases Decidable.em (q6.1 = 20) with c9 | c9
    · obtain ⟨q1, q2⟩ := q6
      subst c9
      have hf := zif_t rfl hf
      refine zr_callV_t C0 cv_X0_57_X1 rfl (zcko e1) (m_X1_rivalCells C0.2.2.2.2.2.2.1 e3) (by decide) (by decide) rfl rfl (Nat.le_of_ble_eq_true rfl) dX0_rivalCells_5 (zr_catch C0 (tableOf []) ⟨0, 10, 13, 22⟩ (tableOf [(0, 10, 17, 13)]) (by rw [ht]; rfl) rfl (fun z hz => by cases hz) (by decide) (by decide) q2014 q787 ?_)
      refine zr_sub [] rfl ?_
      exact w_X0_rivalCells_b13 C0 ht hf
    have hf := zif_f c9 hf
    rcases Decidable.em (q6.1 = 21) with c10 | c10
    · obtain ⟨q1, q2⟩ := q6
      subst c10
      have hf := zif_t rfl hf
      refine zr_callV_t C0 cv_X0_57_X1 rfl (zcko e1) (m_X1_rivalCells C0.2.2.2.2.2.2.1 e3) (by decide) (by decide) rfl rfl (Nat.le_of_ble_eq_true rfl) dX0_rivalCells_5 (zr_catch C0 (tableOf [(0, 10, 13, 22)]) ⟨0, 10, 17, 13⟩ (tableOf []) (by rw [ht]; rfl) rfl (show ∀ z ∈ tableOf [(0, 10, 13, 22)], _ from (List.forall_mem_cons.mpr ⟨Or.inr ⟨by decide, "java/lang/IndexOutOfBoundsException", q2014, by decide +kernel⟩, (List.forall_mem_nil _)⟩)) (by decide) (by decide) q1743 q208 ?_)
      refine zr_sub [] rfl ?_
      exact w_X0_rivalCells_b17 C0 ht hf
    have hf := zif_f c10 hf
    cases hf
def f_X0_rivalCells (E : zE) (p0 : Nat) (p1 : Int32) (p2 : Int32) (p3 : Nat) (h : zH) : Option (Int32 × zH) := f_X0_rivalCells_b0 E p0 p1 p2 p3 h
theorem m_X0_rivalCells {l : Launch} (hst : l.stackTraces = false) {D : zD} {B0 : Nat} {E : zE} {p0 : Nat} {p1 : Int32} {p2 : Int32} {p3 : Nat} {h h' : zH} {r : Int32} (hf : f_X0_rivalCells E p0 p1 p2 p3 h = some (r, h')) : zMet l yX0_rivalCells (wsW_ yX0_rivalCells cX0_rivalCells 5 (Option.some Jvm.ClassFile.FieldType.int) [((0 : Nat), (10 : Nat), (13 : Nat), (22 : Nat)), ((0 : Nat), (10 : Nat), (17 : Nat), (13 : Nat))]) 11 178 D B0 E [.ref p0, .int p1, .int p2, .ref p3] h (zoI r) h' := by
  unfold f_X0_rivalCells at hf
  refine zMet_ofH hst (by decide +kernel) rfl rfl (Nat.le_of_ble_eq_true rfl) (fun p e R s m below meth c C0 ht => ?_)
  show zW _ _ _ _ _ _ _ _ _ _ _ _ _ _ _ _ [(0, .ref p0), (1, .int p1), (2, .int p2), (3, .ref p3)] []
  exact w_X0_rivalCells_b0 C0 ht hf
def f_X0_halvingLine_b12 (E : zE) (s0 : Nat) (h : zH) : Option (Int32 × zH) :=
  some ((1 : Int32), h)
theorem w_X0_halvingLine_b12 (C0 : zCx p l e R s m args below meth c D B0 4 "FranchiseLedgerLaw" cX0_halvingLine E 12 202 (Option.some Jvm.ClassFile.FieldType.int) "halvingLine") (ht : c.exceptionTable.toList = tableOf [((0 : Nat), (9 : Nat), (12 : Nat), (22 : Nat))]) {r : Int32} {h' : zH} {s0 : Nat} {h : zH} (hf : f_X0_halvingLine_b12 E s0 h = some (r, h')) : zW p l e R s m args below meth c D B0 4 (zEnd D B0 R below args s (zoI r) h') h 12 [] [.ref s0] := by
  unfold f_X0_halvingLine_b12 at hf
  refine zr_astore_n (i := 3) (lv' := [(3, .ref s0)]) C0 dX0_halvingLine_12 rfl (by decide) (by first | rfl | simp [zst1, zst2, zcat_rf]) ?_
  refine zr_iconst C0 (v := 1) dX0_halvingLine_13 (by decide) ?_
  refine zretW hf ?_
  exact zr_iret C0 (ty := .int) rfl rfl dX0_halvingLine_14 rfl
def f_X0_halvingLine_b0 (E : zE) (p0 : Nat) (p1 : Int32) (p2 : Nat) (h : zH) : Option (Int32 × zH) :=
  (cko h p0 0).bind fun _ =>
  bnd2 (f_X1_halvingLine E p0 p1 h) fun x4 h2 =>
  Sum.elim (fun x5 => (
    (sL h2 p2 (0 : Int32) (x5.toInt64)).bind fun h7 =>
    some ((0 : Int32), h7)
  )) (fun q6 => (
    if q6.1 = 20 then (
      f_X0_halvingLine_b12 E q6.2 h2
    ) else (
    none
    )
  )) x4
theorem w_X0_halvingLine_b0 (C0 : zCx p l e R s m args below meth c D B0 4 "FranchiseLedgerLaw" cX0_halvingLine E 12 202 (Option.some Jvm.ClassFile.FieldType.int) "halvingLine") (ht : c.exceptionTable.toList = tableOf [((0 : Nat), (9 : Nat), (12 : Nat), (22 : Nat))]) {r : Int32} {h' : zH} {p0 : Nat} {p1 : Int32} {p2 : Nat} {h : zH} (hf : f_X0_halvingLine_b0 E p0 p1 p2 h = some (r, h')) : zW p l e R s m args below meth c D B0 4 (zEnd D B0 R below args s (zoI r) h') h 0 [(0, .ref p0), (1, .int p1), (2, .ref p2)] [] := by
  unfold f_X0_halvingLine_b0 at hf
  refine zr_aload_n C0 dX0_halvingLine_0 rfl 2 rfl ?_
  refine zr_iconst C0 (v := 0) dX0_halvingLine_1 (by decide) ?_
  refine zr_aload_n C0 dX0_halvingLine_2 rfl 0 rfl ?_
  refine zr_iload_n C0 dX0_halvingLine_3 rfl 1 rfl ?_
  obtain ⟨_, e1, hf⟩ := zbind hf
  obtain ⟨x4, h2, e3, hf⟩ := zbind2 hf
  rcases x4 with x5 | q6
  · have hf := zinl hf
    refine zr_callV_r C0 cv_X0_60_X1 rfl (zcko e1) (m_X1_halvingLine C0.2.2.2.2.2.2.1 e3) (by decide) (by decide) rfl rfl (Nat.le_of_ble_eq_true rfl) dX0_halvingLine_4 rfl ?_
    refine zr_i2l C0 dX0_halvingLine_7 ?_
    obtain ⟨h7, e8, hf⟩ := zbind hf
    refine zr_last C0 dX0_halvingLine_8 e8 ?_
    refine zr_goto C0 (tgt := 15) dX0_halvingLine_9 (by decide) ?_
    refine zr_iconst C0 (v := 0) dX0_halvingLine_15 (by decide) ?_
    refine zretW hf ?_
    exact zr_iret C0 (ty := .int) rfl rfl dX0_halvingLine_16 rfl
  · have hf := zinr hf
    rcases Decidable.em (q6.1 = 20) with c9 | c9
    · obtain ⟨q1, q2⟩ := q6
      subst c9
      have hf := zif_t rfl hf
      refine zr_callV_t C0 cv_X0_60_X1 rfl (zcko e1) (m_X1_halvingLine C0.2.2.2.2.2.2.1 e3) (by decide) (by decide) rfl rfl (Nat.le_of_ble_eq_true rfl) dX0_halvingLine_4 (zr_catch C0 (tableOf []) ⟨0, 9, 12, 22⟩ (tableOf []) (by rw [ht]; rfl) rfl (fun z hz => by cases hz) (by decide) (by decide) q2014 q787 ?_)
      refine zr_sub [] rfl ?_
      exact w_X0_halvingLine_b12 C0 ht hf
    have hf := zif_f c9 hf
    cases hf
def f_X0_halvingLine (E : zE) (p0 : Nat) (p1 : Int32) (p2 : Nat) (h : zH) : Option (Int32 × zH) := f_X0_halvingLine_b0 E p0 p1 p2 h
theorem m_X0_halvingLine {l : Launch} (hst : l.stackTraces = false) {D : zD} {B0 : Nat} {E : zE} {p0 : Nat} {p1 : Int32} {p2 : Nat} {h h' : zH} {r : Int32} (hf : f_X0_halvingLine E p0 p1 p2 h = some (r, h')) : zMet l yX0_halvingLine (wsW_ yX0_halvingLine cX0_halvingLine 4 (Option.some Jvm.ClassFile.FieldType.int) [((0 : Nat), (9 : Nat), (12 : Nat), (22 : Nat))]) 12 202 D B0 E [.ref p0, .int p1, .ref p2] h (zoI r) h' := by
  unfold f_X0_halvingLine at hf
  refine zMet_ofH hst (by decide +kernel) rfl rfl (Nat.le_of_ble_eq_true rfl) (fun p e R s m below meth c C0 ht => ?_)
  show zW _ _ _ _ _ _ _ _ _ _ _ _ _ _ _ _ [(0, .ref p0), (1, .int p1), (2, .ref p2)] []
  exact w_X0_halvingLine_b0 C0 ht hf
def f_X0_royalty_b13 (E : zE) (s0 : Nat) (h : zH) : Option (Int32 × zH) :=
  some ((1 : Int32), h)
theorem w_X0_royalty_b13 (C0 : zCx p l e R s m args below meth c D B0 6 "FranchiseLedgerLaw" cX0_royalty E 11 177 (Option.some Jvm.ClassFile.FieldType.int) "royalty") (ht : c.exceptionTable.toList = tableOf [((0 : Nat), (10 : Nat), (13 : Nat), (22 : Nat)), ((0 : Nat), (10 : Nat), (17 : Nat), (13 : Nat))]) {r : Int32} {h' : zH} {s0 : Nat} {h : zH} (hf : f_X0_royalty_b13 E s0 h = some (r, h')) : zW p l e R s m args below meth c D B0 6 (zEnd D B0 R below args s (zoI r) h') h 13 [] [.ref s0] := by
  unfold f_X0_royalty_b13 at hf
  refine zr_astore (i := 5) (lv' := [(5, .ref s0)]) C0 dX0_royalty_13 (by decide) (by first | rfl | simp [zst1, zst2, zcat_rf]) ?_
  refine zr_iconst C0 (v := 1) dX0_royalty_15 (by decide) ?_
  refine zretW hf ?_
  exact zr_iret C0 (ty := .int) rfl rfl dX0_royalty_16 rfl
def f_X0_royalty_b17 (E : zE) (s0 : Nat) (h : zH) : Option (Int32 × zH) :=
  some ((2 : Int32), h)
theorem w_X0_royalty_b17 (C0 : zCx p l e R s m args below meth c D B0 6 "FranchiseLedgerLaw" cX0_royalty E 11 177 (Option.some Jvm.ClassFile.FieldType.int) "royalty") (ht : c.exceptionTable.toList = tableOf [((0 : Nat), (10 : Nat), (13 : Nat), (22 : Nat)), ((0 : Nat), (10 : Nat), (17 : Nat), (13 : Nat))]) {r : Int32} {h' : zH} {s0 : Nat} {h : zH} (hf : f_X0_royalty_b17 E s0 h = some (r, h')) : zW p l e R s m args below meth c D B0 6 (zEnd D B0 R below args s (zoI r) h') h 17 [] [.ref s0] := by
  unfold f_X0_royalty_b17 at hf
  refine zr_astore (i := 5) (lv' := [(5, .ref s0)]) C0 dX0_royalty_17 (by decide) (by first | rfl | simp [zst1, zst2, zcat_rf]) ?_
  refine zr_iconst C0 (v := 2) dX0_royalty_19 (by decide) ?_
  refine zretW hf ?_
  exact zr_iret C0 (ty := .int) rfl rfl dX0_royalty_20 rfl
def f_X0_royalty_b0 (E : zE) (p0 : Nat) (p1 : Int32) (p2 : Int64) (p4 : Nat) (h : zH) : Option (Int32 × zH) :=
  (cko h p0 0).bind fun _ =>
  bnd2 (f_X1_royalty E p0 p1 p2 h) fun x4 h2 =>
  Sum.elim (fun x5 => (
    (sL h2 p4 (0 : Int32) x5).bind fun h7 =>
    some ((0 : Int32), h7)
  )) (fun q6 => (
    if q6.1 = 20 then (
      f_X0_royalty_b13 E q6.2 h2
    ) else (
    if q6.1 = 21 then (
      f_X0_royalty_b17 E q6.2 h2
    ) else (
    none
    ))
  )) x4
theorem w_X0_royalty_b0 (C0 : zCx p l e R s m args below meth c D B0 6 "FranchiseLedgerLaw" cX0_royalty E 11 177 (Option.some Jvm.ClassFile.FieldType.int) "royalty") (ht : c.exceptionTable.toList = tableOf [((0 : Nat), (10 : Nat), (13 : Nat), (22 : Nat)), ((0 : Nat), (10 : Nat), (17 : Nat), (13 : Nat))]) {r : Int32} {h' : zH} {p0 : Nat} {p1 : Int32} {p2 : Int64} {p4 : Nat} {h : zH} (hf : f_X0_royalty_b0 E p0 p1 p2 p4 h = some (r, h')) : zW p l e R s m args below meth c D B0 6 (zEnd D B0 R below args s (zoI r) h') h 0 [(0, .ref p0), (1, .int p1), (2, .long p2), (4, .ref p4)] [] := by
  unfold f_X0_royalty_b0 at hf
  refine zr_aload C0 dX0_royalty_0 3 rfl ?_
  refine zr_iconst C0 (v := 0) dX0_royalty_2 (by decide) ?_
  refine zr_aload_n C0 dX0_royalty_3 rfl 0 rfl ?_
  refine zr_iload_n C0 dX0_royalty_4 rfl 1 rfl ?_
  refine zr_lload_n C0 dX0_royalty_5 rfl 2 rfl ?_
  obtain ⟨_, e1, hf⟩ := zbind hf
  obtain ⟨x4, h2, e3, hf⟩ := zbind2 hf
  rcases x4 with x5 | q6
  · have hf := zinl hf
    refine zr_callV_r C0 cv_X0_63_X1 rfl (zcko e1) (m_X1_royalty C0.2.2.2.2.2.2.1 e3) (by decide) (by decide) rfl rfl (Nat.le_of_ble_eq_true rfl) dX0_royalty_6 rfl ?_
    obtain ⟨h7, e8, hf⟩ := zbind hf
    refine zr_last C0 dX0_royalty_9 e8 ?_
    refine zr_goto C0 (tgt := 21) dX0_royalty_10 (by decide) ?_
    refine zr_iconst C0 (v := 0) dX0_royalty_21 (by decide) ?_
    refine zretW hf ?_
    exact zr_iret C0 (ty := .int) rfl rfl dX0_royalty_22 rfl
  · have hf := zinr hf
    rcases Decidable.em (q6.1 = 20) with c9 | c9
    · obtain ⟨q1, q2⟩ := q6
      subst c9
      have hf := zif_t rfl hf
      refine zr_callV_t C0 cv_X0_63_X1 rfl (zcko e1) (m_X1_royalty C0.2.2.2.2.2.2.1 e3) (by decide) (by decide) rfl rfl (Nat.le_of_ble_eq_true rfl) dX0_royalty_6 (zr_catch C0 (tableOf []) ⟨0, 10, 13, 22⟩ (tableOf [(0, 10, 17, 13)]) (by rw [ht]; rfl) rfl (fun z hz => by cases hz) (by decide) (by decide) q2014 q787 ?_)
      refine zr_sub [] rfl ?_
      exact w_X0_royalty_b13 C0 ht hf
    have hf := zif_f c9 hf
    rcases Decidable.em (q6.1 = 21) with c10 | c10
    · obtain ⟨q1, q2⟩ := q6
      subst c10
      have hf := zif_t rfl hf
      refine zr_callV_t C0 cv_X0_63_X1 rfl (zcko e1) (m_X1_royalty C0.2.2.2.2.2.2.1 e3) (by decide) (by decide) rfl rfl (Nat.le_of_ble_eq_true rfl) dX0_royalty_6 (zr_catch C0 (tableOf [(0, 10, 13, 22)]) ⟨0, 10, 17, 13⟩ (tableOf []) (by rw [ht]; rfl) rfl (show ∀ z ∈ tableOf [(0, 10, 13, 22)], _ from (List.forall_mem_cons.mpr ⟨Or.inr ⟨by decide, "java/lang/IndexOutOfBoundsException", q2014, by decide +kernel⟩, (List.forall_mem_nil _)⟩)) (by decide) (by decide) q1743 q208 ?_)
      refine zr_sub [] rfl ?_
      exact w_X0_royalty_b17 C0 ht hf
    have hf := zif_f c10 hf
    cases hf
def f_X0_royalty (E : zE) (p0 : Nat) (p1 : Int32) (p2 : Int64) (p4 : Nat) (h : zH) : Option (Int32 × zH) := f_X0_royalty_b0 E p0 p1 p2 p4 h
theorem m_X0_royalty {l : Launch} (hst : l.stackTraces = false) {D : zD} {B0 : Nat} {E : zE} {p0 : Nat} {p1 : Int32} {p2 : Int64} {p4 : Nat} {h h' : zH} {r : Int32} (hf : f_X0_royalty E p0 p1 p2 p4 h = some (r, h')) : zMet l yX0_royalty (wsW_ yX0_royalty cX0_royalty 6 (Option.some Jvm.ClassFile.FieldType.int) [((0 : Nat), (10 : Nat), (13 : Nat), (22 : Nat)), ((0 : Nat), (10 : Nat), (17 : Nat), (13 : Nat))]) 11 177 D B0 E [.ref p0, .int p1, .long p2, .ref p4] h (zoI r) h' := by
  unfold f_X0_royalty at hf
  refine zMet_ofH hst (by decide +kernel) rfl rfl (Nat.le_of_ble_eq_true rfl) (fun p e R s m below meth c C0 ht => ?_)
  show zW _ _ _ _ _ _ _ _ _ _ _ _ _ _ _ _ [(0, .ref p0), (1, .int p1), (2, .long p2), (4, .ref p4)] []
  exact w_X0_royalty_b0 C0 ht hf
def f_X0_planOf_b12 (E : zE) (s0 : Nat) (h : zH) : Option (Int32 × zH) :=
  some ((1 : Int32), h)
theorem w_X0_planOf_b12 (C0 : zCx p l e R s m args below meth c D B0 4 "FranchiseLedgerLaw" cX0_planOf E 12 196 (Option.some Jvm.ClassFile.FieldType.int) "planOf") (ht : c.exceptionTable.toList = tableOf [((0 : Nat), (9 : Nat), (12 : Nat), (22 : Nat))]) {r : Int32} {h' : zH} {s0 : Nat} {h : zH} (hf : f_X0_planOf_b12 E s0 h = some (r, h')) : zW p l e R s m args below meth c D B0 4 (zEnd D B0 R below args s (zoI r) h') h 12 [] [.ref s0] := by
  unfold f_X0_planOf_b12 at hf
  refine zr_astore_n (i := 3) (lv' := [(3, .ref s0)]) C0 dX0_planOf_12 rfl (by decide) (by first | rfl | simp [zst1, zst2, zcat_rf]) ?_
  refine zr_iconst C0 (v := 1) dX0_planOf_13 (by decide) ?_
  refine zretW hf ?_
  exact zr_iret C0 (ty := .int) rfl rfl dX0_planOf_14 rfl
def f_X0_planOf_b0 (E : zE) (p0 : Nat) (p1 : Int32) (p2 : Nat) (h : zH) : Option (Int32 × zH) :=
  (cko h p0 0).bind fun _ =>
  bnd2 (f_X1_planOf E p0 p1 h) fun x4 h2 =>
  Sum.elim (fun x5 => (
    (sL h2 p2 (0 : Int32) (x5.toInt64)).bind fun h7 =>
    some ((0 : Int32), h7)
  )) (fun q6 => (
    if q6.1 = 20 then (
      f_X0_planOf_b12 E q6.2 h2
    ) else (
    none
    )
  )) x4
theorem w_X0_planOf_b0 (C0 : zCx p l e R s m args below meth c D B0 4 "FranchiseLedgerLaw" cX0_planOf E 12 196 (Option.some Jvm.ClassFile.FieldType.int) "planOf") (ht : c.exceptionTable.toList = tableOf [((0 : Nat), (9 : Nat), (12 : Nat), (22 : Nat))]) {r : Int32} {h' : zH} {p0 : Nat} {p1 : Int32} {p2 : Nat} {h : zH} (hf : f_X0_planOf_b0 E p0 p1 p2 h = some (r, h')) : zW p l e R s m args below meth c D B0 4 (zEnd D B0 R below args s (zoI r) h') h 0 [(0, .ref p0), (1, .int p1), (2, .ref p2)] [] := by
  unfold f_X0_planOf_b0 at hf
  refine zr_aload_n C0 dX0_planOf_0 rfl 2 rfl ?_
  refine zr_iconst C0 (v := 0) dX0_planOf_1 (by decide) ?_
  refine zr_aload_n C0 dX0_planOf_2 rfl 0 rfl ?_
  refine zr_iload_n C0 dX0_planOf_3 rfl 1 rfl ?_
  obtain ⟨_, e1, hf⟩ := zbind hf
  obtain ⟨x4, h2, e3, hf⟩ := zbind2 hf
  rcases x4 with x5 | q6
  · have hf := zinl hf
    refine zr_callV_r C0 cv_X0_67_X1 rfl (zcko e1) (m_X1_planOf C0.2.2.2.2.2.2.1 e3) (by decide) (by decide) rfl rfl (Nat.le_of_ble_eq_true rfl) dX0_planOf_4 rfl ?_
    refine zr_i2l C0 dX0_planOf_7 ?_
    obtain ⟨h7, e8, hf⟩ := zbind hf
    refine zr_last C0 dX0_planOf_8 e8 ?_
    refine zr_goto C0 (tgt := 15) dX0_planOf_9 (by decide) ?_
    refine zr_iconst C0 (v := 0) dX0_planOf_15 (by decide) ?_
    refine zretW hf ?_
    exact zr_iret C0 (ty := .int) rfl rfl dX0_planOf_16 rfl
  · have hf := zinr hf
    rcases Decidable.em (q6.1 = 20) with c9 | c9
    · obtain ⟨q1, q2⟩ := q6
      subst c9
      have hf := zif_t rfl hf
      refine zr_callV_t C0 cv_X0_67_X1 rfl (zcko e1) (m_X1_planOf C0.2.2.2.2.2.2.1 e3) (by decide) (by decide) rfl rfl (Nat.le_of_ble_eq_true rfl) dX0_planOf_4 (zr_catch C0 (tableOf []) ⟨0, 9, 12, 22⟩ (tableOf []) (by rw [ht]; rfl) rfl (fun z hz => by cases hz) (by decide) (by decide) q2014 q787 ?_)
      refine zr_sub [] rfl ?_
      exact w_X0_planOf_b12 C0 ht hf
    have hf := zif_f c9 hf
    cases hf
def f_X0_planOf (E : zE) (p0 : Nat) (p1 : Int32) (p2 : Nat) (h : zH) : Option (Int32 × zH) := f_X0_planOf_b0 E p0 p1 p2 h
theorem m_X0_planOf {l : Launch} (hst : l.stackTraces = false) {D : zD} {B0 : Nat} {E : zE} {p0 : Nat} {p1 : Int32} {p2 : Nat} {h h' : zH} {r : Int32} (hf : f_X0_planOf E p0 p1 p2 h = some (r, h')) : zMet l yX0_planOf (wsW_ yX0_planOf cX0_planOf 4 (Option.some Jvm.ClassFile.FieldType.int) [((0 : Nat), (9 : Nat), (12 : Nat), (22 : Nat))]) 12 196 D B0 E [.ref p0, .int p1, .ref p2] h (zoI r) h' := by
  unfold f_X0_planOf at hf
  refine zMet_ofH hst (by decide +kernel) rfl rfl (Nat.le_of_ble_eq_true rfl) (fun p e R s m below meth c C0 ht => ?_)
  show zW _ _ _ _ _ _ _ _ _ _ _ _ _ _ _ _ [(0, .ref p0), (1, .int p1), (2, .ref p2)] []
  exact w_X0_planOf_b0 C0 ht hf
def f_X0_setPlan_b13 (E : zE) (s0 : Nat) (h : zH) : Option (Int32 × zH) :=
  some ((1 : Int32), h)
theorem w_X0_setPlan_b13 (C0 : zCx p l e R s m args below meth c D B0 5 "FranchiseLedgerLaw" cX0_setPlan E 12 198 (Option.some Jvm.ClassFile.FieldType.int) "setPlan") (ht : c.exceptionTable.toList = tableOf [((0 : Nat), (10 : Nat), (13 : Nat), (22 : Nat))]) {r : Int32} {h' : zH} {s0 : Nat} {h : zH} (hf : f_X0_setPlan_b13 E s0 h = some (r, h')) : zW p l e R s m args below meth c D B0 5 (zEnd D B0 R below args s (zoI r) h') h 13 [] [.ref s0] := by
  unfold f_X0_setPlan_b13 at hf
  refine zr_astore (i := 4) (lv' := [(4, .ref s0)]) C0 dX0_setPlan_13 (by decide) (by first | rfl | simp [zst1, zst2, zcat_rf]) ?_
  refine zr_iconst C0 (v := 1) dX0_setPlan_15 (by decide) ?_
  refine zretW hf ?_
  exact zr_iret C0 (ty := .int) rfl rfl dX0_setPlan_16 rfl
def f_X0_setPlan_b0 (E : zE) (p0 : Nat) (p1 : Int32) (p2 : Int32) (p3 : Nat) (h : zH) : Option (Int32 × zH) :=
  (cko h p0 0).bind fun _ =>
  bnd2 (f_X1_setPlan E p0 p1 p2 h) fun x4 h2 =>
  Sum.elim (fun x5 => (
    (sL h2 p3 (0 : Int32) (x5.toInt64)).bind fun h7 =>
    some ((0 : Int32), h7)
  )) (fun q6 => (
    if q6.1 = 20 then (
      f_X0_setPlan_b13 E q6.2 h2
    ) else (
    none
    )
  )) x4
theorem w_X0_setPlan_b0 (C0 : zCx p l e R s m args below meth c D B0 5 "FranchiseLedgerLaw" cX0_setPlan E 12 198 (Option.some Jvm.ClassFile.FieldType.int) "setPlan") (ht : c.exceptionTable.toList = tableOf [((0 : Nat), (10 : Nat), (13 : Nat), (22 : Nat))]) {r : Int32} {h' : zH} {p0 : Nat} {p1 : Int32} {p2 : Int32} {p3 : Nat} {h : zH} (hf : f_X0_setPlan_b0 E p0 p1 p2 p3 h = some (r, h')) : zW p l e R s m args below meth c D B0 5 (zEnd D B0 R below args s (zoI r) h') h 0 [(0, .ref p0), (1, .int p1), (2, .int p2), (3, .ref p3)] [] := by
  unfold f_X0_setPlan_b0 at hf
  refine zr_aload_n C0 dX0_setPlan_0 rfl 3 rfl ?_
  refine zr_iconst C0 (v := 0) dX0_setPlan_1 (by decide) ?_
  refine zr_aload_n C0 dX0_setPlan_2 rfl 0 rfl ?_
  refine zr_iload_n C0 dX0_setPlan_3 rfl 1 rfl ?_
  refine zr_iload_n C0 dX0_setPlan_4 rfl 2 rfl ?_
  obtain ⟨_, e1, hf⟩ := zbind hf
  obtain ⟨x4, h2, e3, hf⟩ := zbind2 hf
  rcases x4 with x5 | q6
  · have hf := zinl hf
    refine zr_callV_r C0 cv_X0_70_X1 rfl (zcko e1) (m_X1_setPlan C0.2.2.2.2.2.2.1 e3) (by decide) (by decide) rfl rfl (Nat.le_of_ble_eq_true rfl) dX0_setPlan_5 rfl ?_
    refine zr_i2l C0 dX0_setPlan_8 ?_
    obtain ⟨h7, e8, hf⟩ := zbind hf
    refine zr_last C0 dX0_setPlan_9 e8 ?_
    refine zr_goto C0 (tgt := 17) dX0_setPlan_10 (by decide) ?_
    refine zr_iconst C0 (v := 0) dX0_setPlan_17 (by decide) ?_
    refine zretW hf ?_
    exact zr_iret C0 (ty := .int) rfl rfl dX0_setPlan_18 rfl
  · have hf := zinr hf
    rcases Decidable.em (q6.1 = 20) with c9 | c9
    · obtain ⟨q1, q2⟩ := q6
      subst c9
      have hf := zif_t rfl hf
      refine zr_callV_t C0 cv_X0_70_X1 rfl (zcko e1) (m_X1_setPlan C0.2.2.2.2.2.2.1 e3) (by decide) (by decide) rfl rfl (Nat.le_of_ble_eq_true rfl) dX0_setPlan_5 (zr_catch C0 (tableOf []) ⟨0, 10, 13, 22⟩ (tableOf []) (by rw [ht]; rfl) rfl (fun z hz => by cases hz) (by decide) (by decide) q2014 q787 ?_)
      refine zr_sub [] rfl ?_
      exact w_X0_setPlan_b13 C0 ht hf
    have hf := zif_f c9 hf
    cases hf
def f_X0_setPlan (E : zE) (p0 : Nat) (p1 : Int32) (p2 : Int32) (p3 : Nat) (h : zH) : Option (Int32 × zH) := f_X0_setPlan_b0 E p0 p1 p2 p3 h
theorem m_X0_setPlan {l : Launch} (hst : l.stackTraces = false) {D : zD} {B0 : Nat} {E : zE} {p0 : Nat} {p1 : Int32} {p2 : Int32} {p3 : Nat} {h h' : zH} {r : Int32} (hf : f_X0_setPlan E p0 p1 p2 p3 h = some (r, h')) : zMet l yX0_setPlan (wsW_ yX0_setPlan cX0_setPlan 5 (Option.some Jvm.ClassFile.FieldType.int) [((0 : Nat), (10 : Nat), (13 : Nat), (22 : Nat))]) 12 198 D B0 E [.ref p0, .int p1, .int p2, .ref p3] h (zoI r) h' := by
  unfold f_X0_setPlan at hf
  refine zMet_ofH hst (by decide +kernel) rfl rfl (Nat.le_of_ble_eq_true rfl) (fun p e R s m below meth c C0 ht => ?_)
  show zW _ _ _ _ _ _ _ _ _ _ _ _ _ _ _ _ [(0, .ref p0), (1, .int p1), (2, .int p2), (3, .ref p3)] []
  exact w_X0_setPlan_b0 C0 ht hf
def f_X0_cheapestPlan_b12 (E : zE) (s0 : Nat) (h : zH) : Option (Int32 × zH) :=
  some ((1 : Int32), h)
theorem w_X0_cheapestPlan_b12 (C0 : zCx p l e R s m args below meth c D B0 4 "FranchiseLedgerLaw" cX0_cheapestPlan E 11 220 (Option.some Jvm.ClassFile.FieldType.int) "cheapestPlan") (ht : c.exceptionTable.toList = tableOf [((0 : Nat), (9 : Nat), (12 : Nat), (22 : Nat))]) {r : Int32} {h' : zH} {s0 : Nat} {h : zH} (hf : f_X0_cheapestPlan_b12 E s0 h = some (r, h')) : zW p l e R s m args below meth c D B0 4 (zEnd D B0 R below args s (zoI r) h') h 12 [] [.ref s0] := by
  unfold f_X0_cheapestPlan_b12 at hf
  refine zr_astore_n (i := 3) (lv' := [(3, .ref s0)]) C0 dX0_cheapestPlan_12 rfl (by decide) (by first | rfl | simp [zst1, zst2, zcat_rf]) ?_
  refine zr_iconst C0 (v := 1) dX0_cheapestPlan_13 (by decide) ?_
  refine zretW hf ?_
  exact zr_iret C0 (ty := .int) rfl rfl dX0_cheapestPlan_14 rfl
def f_X0_cheapestPlan_b0 (E : zE) (p0 : Nat) (p1 : Int32) (p2 : Nat) (h : zH) : Option (Int32 × zH) :=
  (cko h p0 0).bind fun _ =>
  bnd2 (f_X1_cheapestPlan E p0 p1 h) fun x4 h2 =>
  Sum.elim (fun x5 => (
    (sL h2 p2 (0 : Int32) (x5.toInt64)).bind fun h7 =>
    some ((0 : Int32), h7)
  )) (fun q6 => (
    if q6.1 = 20 then (
      f_X0_cheapestPlan_b12 E q6.2 h2
    ) else (
    none
    )
  )) x4
theorem w_X0_cheapestPlan_b0 (C0 : zCx p l e R s m args below meth c D B0 4 "FranchiseLedgerLaw" cX0_cheapestPlan E 11 220 (Option.some Jvm.ClassFile.FieldType.int) "cheapestPlan") (ht : c.exceptionTable.toList = tableOf [((0 : Nat), (9 : Nat), (12 : Nat), (22 : Nat))]) {r : Int32} {h' : zH} {p0 : Nat} {p1 : Int32} {p2 : Nat} {h : zH} (hf : f_X0_cheapestPlan_b0 E p0 p1 p2 h = some (r, h')) : zW p l e R s m args below meth c D B0 4 (zEnd D B0 R below args s (zoI r) h') h 0 [(0, .ref p0), (1, .int p1), (2, .ref p2)] [] := by
  unfold f_X0_cheapestPlan_b0 at hf
  refine zr_aload_n C0 dX0_cheapestPlan_0 rfl 2 rfl ?_
  refine zr_iconst C0 (v := 0) dX0_cheapestPlan_1 (by decide) ?_
  refine zr_aload_n C0 dX0_cheapestPlan_2 rfl 0 rfl ?_
  refine zr_iload_n C0 dX0_cheapestPlan_3 rfl 1 rfl ?_
  obtain ⟨_, e1, hf⟩ := zbind hf
  obtain ⟨x4, h2, e3, hf⟩ := zbind2 hf
  rcases x4 with x5 | q6
  · have hf := zinl hf
    refine zr_callV_r C0 cv_X0_73_X1 rfl (zcko e1) (m_X1_cheapestPlan C0.2.2.2.2.2.2.1 e3) (by decide) (by decide) rfl rfl (Nat.le_of_ble_eq_true rfl) dX0_cheapestPlan_4 rfl ?_
    refine zr_i2l C0 dX0_cheapestPlan_7 ?_
    obtain ⟨h7, e8, hf⟩ := zbind hf
    refine zr_last C0 dX0_cheapestPlan_8 e8 ?_
    refine zr_goto C0 (tgt := 15) dX0_cheapestPlan_9 (by decide) ?_
    refine zr_iconst C0 (v := 0) dX0_cheapestPlan_15 (by decide) ?_
    refine zretW hf ?_
    exact zr_iret C0 (ty := .int) rfl rfl dX0_cheapestPlan_16 rfl
  · have hf := zinr hf
    rcases Decidable.em (q6.1 = 20) with c9 | c9
    · obtain ⟨q1, q2⟩ := q6
      subst c9
      have hf := zif_t rfl hf
      refine zr_callV_t C0 cv_X0_73_X1 rfl (zcko e1) (m_X1_cheapestPlan C0.2.2.2.2.2.2.1 e3) (by decide) (by decide) rfl rfl (Nat.le_of_ble_eq_true rfl) dX0_cheapestPlan_4 (zr_catch C0 (tableOf []) ⟨0, 9, 12, 22⟩ (tableOf []) (by rw [ht]; rfl) rfl (fun z hz => by cases hz) (by decide) (by decide) q2014 q787 ?_)
      refine zr_sub [] rfl ?_
      exact w_X0_cheapestPlan_b12 C0 ht hf
    have hf := zif_f c9 hf
    cases hf
def f_X0_cheapestPlan (E : zE) (p0 : Nat) (p1 : Int32) (p2 : Nat) (h : zH) : Option (Int32 × zH) := f_X0_cheapestPlan_b0 E p0 p1 p2 h
theorem m_X0_cheapestPlan {l : Launch} (hst : l.stackTraces = false) {D : zD} {B0 : Nat} {E : zE} {p0 : Nat} {p1 : Int32} {p2 : Nat} {h h' : zH} {r : Int32} (hf : f_X0_cheapestPlan E p0 p1 p2 h = some (r, h')) : zMet l yX0_cheapestPlan (wsW_ yX0_cheapestPlan cX0_cheapestPlan 4 (Option.some Jvm.ClassFile.FieldType.int) [((0 : Nat), (9 : Nat), (12 : Nat), (22 : Nat))]) 11 220 D B0 E [.ref p0, .int p1, .ref p2] h (zoI r) h' := by
  unfold f_X0_cheapestPlan at hf
  refine zMet_ofH hst (by decide +kernel) rfl rfl (Nat.le_of_ble_eq_true rfl) (fun p e R s m below meth c C0 ht => ?_)
  show zW _ _ _ _ _ _ _ _ _ _ _ _ _ _ _ _ [(0, .ref p0), (1, .int p1), (2, .ref p2)] []
  exact w_X0_cheapestPlan_b0 C0 ht hf
def f_X0_reportSales_b13 (E : zE) (s0 : Nat) (h : zH) : Option (Int32 × zH) :=
  some ((1 : Int32), h)
theorem w_X0_reportSales_b13 (C0 : zCx p l e R s m args below meth c D B0 6 "FranchiseLedgerLaw" cX0_reportSales E 12 201 (Option.some Jvm.ClassFile.FieldType.int) "reportSales") (ht : c.exceptionTable.toList = tableOf [((0 : Nat), (10 : Nat), (13 : Nat), (22 : Nat)), ((0 : Nat), (10 : Nat), (17 : Nat), (13 : Nat)), ((0 : Nat), (10 : Nat), (21 : Nat), (79 : Nat))]) {r : Int32} {h' : zH} {s0 : Nat} {h : zH} (hf : f_X0_reportSales_b13 E s0 h = some (r, h')) : zW p l e R s m args below meth c D B0 6 (zEnd D B0 R below args s (zoI r) h') h 13 [] [.ref s0] := by
  unfold f_X0_reportSales_b13 at hf
  refine zr_astore (i := 5) (lv' := [(5, .ref s0)]) C0 dX0_reportSales_13 (by decide) (by first | rfl | simp [zst1, zst2, zcat_rf]) ?_
  refine zr_iconst C0 (v := 1) dX0_reportSales_15 (by decide) ?_
  refine zretW hf ?_
  exact zr_iret C0 (ty := .int) rfl rfl dX0_reportSales_16 rfl
def f_X0_reportSales_b17 (E : zE) (s0 : Nat) (h : zH) : Option (Int32 × zH) :=
  some ((2 : Int32), h)
theorem w_X0_reportSales_b17 (C0 : zCx p l e R s m args below meth c D B0 6 "FranchiseLedgerLaw" cX0_reportSales E 12 201 (Option.some Jvm.ClassFile.FieldType.int) "reportSales") (ht : c.exceptionTable.toList = tableOf [((0 : Nat), (10 : Nat), (13 : Nat), (22 : Nat)), ((0 : Nat), (10 : Nat), (17 : Nat), (13 : Nat)), ((0 : Nat), (10 : Nat), (21 : Nat), (79 : Nat))]) {r : Int32} {h' : zH} {s0 : Nat} {h : zH} (hf : f_X0_reportSales_b17 E s0 h = some (r, h')) : zW p l e R s m args below meth c D B0 6 (zEnd D B0 R below args s (zoI r) h') h 17 [] [.ref s0] := by
  unfold f_X0_reportSales_b17 at hf
  refine zr_astore (i := 5) (lv' := [(5, .ref s0)]) C0 dX0_reportSales_17 (by decide) (by first | rfl | simp [zst1, zst2, zcat_rf]) ?_
  refine zr_iconst C0 (v := 2) dX0_reportSales_19 (by decide) ?_
  refine zretW hf ?_
  exact zr_iret C0 (ty := .int) rfl rfl dX0_reportSales_20 rfl
def f_X0_reportSales_b21 (E : zE) (s0 : Nat) (h : zH) : Option (Int32 × zH) :=
  some ((3 : Int32), h)
theorem w_X0_reportSales_b21 (C0 : zCx p l e R s m args below meth c D B0 6 "FranchiseLedgerLaw" cX0_reportSales E 12 201 (Option.some Jvm.ClassFile.FieldType.int) "reportSales") (ht : c.exceptionTable.toList = tableOf [((0 : Nat), (10 : Nat), (13 : Nat), (22 : Nat)), ((0 : Nat), (10 : Nat), (17 : Nat), (13 : Nat)), ((0 : Nat), (10 : Nat), (21 : Nat), (79 : Nat))]) {r : Int32} {h' : zH} {s0 : Nat} {h : zH} (hf : f_X0_reportSales_b21 E s0 h = some (r, h')) : zW p l e R s m args below meth c D B0 6 (zEnd D B0 R below args s (zoI r) h') h 21 [] [.ref s0] := by
  unfold f_X0_reportSales_b21 at hf
  refine zr_astore (i := 5) (lv' := [(5, .ref s0)]) C0 dX0_reportSales_21 (by decide) (by first | rfl | simp [zst1, zst2, zcat_rf]) ?_
  refine zr_iconst C0 (v := 3) dX0_reportSales_23 (by decide) ?_
  refine zretW hf ?_
  exact zr_iret C0 (ty := .int) rfl rfl dX0_reportSales_24 rfl
def f_X0_reportSales_b0 (E : zE) (p0 : Nat) (p1 : Int32) (p2 : Int64) (p4 : Nat) (h : zH) : Option (Int32 × zH) :=
  (cko h p0 0).bind fun _ =>
  bnd2 (f_X1_reportSales E p0 p1 p2 h) fun x4 h2 =>
  Sum.elim (fun x5 => (
    (sL h2 p4 (0 : Int32) x5).bind fun h7 =>
    some ((0 : Int32), h7)
  )) (fun q6 => (
    if q6.1 = 20 then (
      f_X0_reportSales_b13 E q6.2 h2
    ) else (
    if q6.1 = 21 then (
      f_X0_reportSales_b17 E q6.2 h2
    ) else (
    if q6.1 = 22 then (
      f_X0_reportSales_b21 E q6.2 h2
    ) else (
    none
    )))
  )) x4
theorem w_X0_reportSales_b0 (C0 : zCx p l e R s m args below meth c D B0 6 "FranchiseLedgerLaw" cX0_reportSales E 12 201 (Option.some Jvm.ClassFile.FieldType.int) "reportSales") (ht : c.exceptionTable.toList = tableOf [((0 : Nat), (10 : Nat), (13 : Nat), (22 : Nat)), ((0 : Nat), (10 : Nat), (17 : Nat), (13 : Nat)), ((0 : Nat), (10 : Nat), (21 : Nat), (79 : Nat))]) {r : Int32} {h' : zH} {p0 : Nat} {p1 : Int32} {p2 : Int64} {p4 : Nat} {h : zH} (hf : f_X0_reportSales_b0 E p0 p1 p2 p4 h = some (r, h')) : zW p l e R s m args below meth c D B0 6 (zEnd D B0 R below args s (zoI r) h') h 0 [(0, .ref p0), (1, .int p1), (2, .long p2), (4, .ref p4)] [] := by
  unfold f_X0_reportSales_b0 at hf
  refine zr_aload C0 dX0_reportSales_0 3 rfl ?_
  refine zr_iconst C0 (v := 0) dX0_reportSales_2 (by decide) ?_
  refine zr_aload_n C0 dX0_reportSales_3 rfl 0 rfl ?_
  refine zr_iload_n C0 dX0_reportSales_4 rfl 1 rfl ?_
  refine zr_lload_n C0 dX0_reportSales_5 rfl 2 rfl ?_
  obtain ⟨_, e1, hf⟩ := zbind hf
  obtain ⟨x4, h2, e3, hf⟩ := zbind2 hf
  rcases x4 with x5 | q6
  · have hf := zinl hf
    refine zr_callV_r C0 cv_X0_76_X1 rfl (zcko e1) (m_X1_reportSales C0.2.2.2.2.2.2.1 e3) (by decide) (by decide) rfl rfl (Nat.le_of_ble_eq_true rfl) dX0_reportSales_6 rfl ?_
    obtain ⟨h7, e8, hf⟩ := zbind hf
    refine zr_last C0 dX0_reportSales_9 e8 ?_
    refine zr_goto C0 (tgt := 25) dX0_reportSales_10 (by decide) ?_
    refine zr_iconst C0 (v := 0) dX0_reportSales_25 (by decide) ?_
    refine zretW hf ?_
    exact zr_iret C0 (ty := .int) rfl rfl dX0_reportSales_26 rfl
  · have hf := zinr hf
    rcases Decidable.em (q6.1 = 20) with c9 | c9
    · obtain ⟨q1, q2⟩ := q6
      subst c9
      have hf := zif_t rfl hf
      refine zr_callV_t C0 cv_X0_76_X1 rfl (zcko e1) (m_X1_reportSales C0.2.2.2.2.2.2.1 e3) (by decide) (by decide) rfl rfl (Nat.le_of_ble_eq_true rfl) dX0_reportSales_6 (zr_catch C0 (tableOf []) ⟨0, 10, 13, 22⟩ (tableOf [(0, 10, 17, 13), (0, 10, 21, 79)]) (by rw [ht]; rfl) rfl (fun z hz => by cases hz) (by decide) (by decide) q2014 q787 ?_)
      refine zr_sub [] rfl ?_
      exact w_X0_reportSales_b13 C0 ht hf
    have hf := zif_f c9 hf
    rcases Decidable.em (q6.1 = 21) with c10 | c10
    · obtain ⟨q1, q2⟩ := q6
      subst c10
      have hf := zif_t rfl hf
      refine zr_callV_t C0 cv_X0_76_X1 rfl (zcko e1) (m_X1_reportSales C0.2.2.2.2.2.2.1 e3) (by decide) (by decide) rfl rfl (Nat.le_of_ble_eq_true rfl) dX0_reportSales_6 (zr_catch C0 (tableOf [(0, 10, 13, 22)]) ⟨0, 10, 17, 13⟩ (tableOf [(0, 10, 21, 79)]) (by rw [ht]; rfl) rfl (show ∀ z ∈ tableOf [(0, 10, 13, 22)], _ from (List.forall_mem_cons.mpr ⟨Or.inr ⟨by decide, "java/lang/IndexOutOfBoundsException", q2014, by decide +kernel⟩, (List.forall_mem_nil _)⟩)) (by decide) (by decide) q1743 q208 ?_)
      refine zr_sub [] rfl ?_
      exact w_X0_reportSales_b17 C0 ht hf
    have hf := zif_f c10 hf
    rcases Decidable.em (q6.1 = 22) with c11 | c11
    · obtain ⟨q1, q2⟩ := q6
      subst c11
      have hf := zif_t rfl hf
      refine zr_callV_t C0 cv_X0_76_X1 rfl (zcko e1) (m_X1_reportSales C0.2.2.2.2.2.2.1 e3) (by decide) (by decide) rfl rfl (Nat.le_of_ble_eq_true rfl) dX0_reportSales_6 (zr_catch C0 (tableOf [(0, 10, 13, 22), (0, 10, 17, 13)]) ⟨0, 10, 21, 79⟩ (tableOf []) (by rw [ht]; rfl) rfl (show ∀ z ∈ tableOf [(0, 10, 13, 22), (0, 10, 17, 13)], _ from (List.forall_mem_cons.mpr ⟨Or.inr ⟨by decide, "java/lang/IndexOutOfBoundsException", q2014, by decide +kernel⟩, (List.forall_mem_cons.mpr ⟨Or.inr ⟨by decide, "java/lang/IllegalArgumentException", q1743, by decide +kernel⟩, (List.forall_mem_nil _)⟩)⟩)) (by decide) (by decide) q2219 q1841 ?_)
      refine zr_sub [] rfl ?_
      exact w_X0_reportSales_b21 C0 ht hf
    have hf := zif_f c11 hf
    cases hf
def f_X0_reportSales (E : zE) (p0 : Nat) (p1 : Int32) (p2 : Int64) (p4 : Nat) (h : zH) : Option (Int32 × zH) := f_X0_reportSales_b0 E p0 p1 p2 p4 h
theorem m_X0_reportSales {l : Launch} (hst : l.stackTraces = false) {D : zD} {B0 : Nat} {E : zE} {p0 : Nat} {p1 : Int32} {p2 : Int64} {p4 : Nat} {h h' : zH} {r : Int32} (hf : f_X0_reportSales E p0 p1 p2 p4 h = some (r, h')) : zMet l yX0_reportSales (wsW_ yX0_reportSales cX0_reportSales 6 (Option.some Jvm.ClassFile.FieldType.int) [((0 : Nat), (10 : Nat), (13 : Nat), (22 : Nat)), ((0 : Nat), (10 : Nat), (17 : Nat), (13 : Nat)), ((0 : Nat), (10 : Nat), (21 : Nat), (79 : Nat))]) 12 201 D B0 E [.ref p0, .int p1, .long p2, .ref p4] h (zoI r) h' := by
  unfold f_X0_reportSales at hf
  refine zMet_ofH hst (by decide +kernel) rfl rfl (Nat.le_of_ble_eq_true rfl) (fun p e R s m below meth c C0 ht => ?_)
  show zW _ _ _ _ _ _ _ _ _ _ _ _ _ _ _ _ [(0, .ref p0), (1, .int p1), (2, .long p2), (4, .ref p4)] []
  exact w_X0_reportSales_b0 C0 ht hf
def f_X0_deliver_b16 (E : zE) (s0 : Nat) (h : zH) : Option (Int32 × zH) :=
  some ((1 : Int32), h)
theorem w_X0_deliver_b16 (C0 : zCx p l e R s m args below meth c D B0 8 "FranchiseLedgerLaw" cX0_deliver E 12 202 (Option.some Jvm.ClassFile.FieldType.int) "deliver") (ht : c.exceptionTable.toList = tableOf [((0 : Nat), (13 : Nat), (16 : Nat), (22 : Nat)), ((0 : Nat), (13 : Nat), (20 : Nat), (13 : Nat)), ((0 : Nat), (13 : Nat), (24 : Nat), (79 : Nat))]) {r : Int32} {h' : zH} {s0 : Nat} {h : zH} (hf : f_X0_deliver_b16 E s0 h = some (r, h')) : zW p l e R s m args below meth c D B0 8 (zEnd D B0 R below args s (zoI r) h') h 16 [] [.ref s0] := by
  unfold f_X0_deliver_b16 at hf
  refine zr_astore (i := 7) (lv' := [(7, .ref s0)]) C0 dX0_deliver_16 (by decide) (by first | rfl | simp [zst1, zst2, zcat_rf]) ?_
  refine zr_iconst C0 (v := 1) dX0_deliver_18 (by decide) ?_
  refine zretW hf ?_
  exact zr_iret C0 (ty := .int) rfl rfl dX0_deliver_19 rfl
def f_X0_deliver_b20 (E : zE) (s0 : Nat) (h : zH) : Option (Int32 × zH) :=
  some ((2 : Int32), h)
theorem w_X0_deliver_b20 (C0 : zCx p l e R s m args below meth c D B0 8 "FranchiseLedgerLaw" cX0_deliver E 12 202 (Option.some Jvm.ClassFile.FieldType.int) "deliver") (ht : c.exceptionTable.toList = tableOf [((0 : Nat), (13 : Nat), (16 : Nat), (22 : Nat)), ((0 : Nat), (13 : Nat), (20 : Nat), (13 : Nat)), ((0 : Nat), (13 : Nat), (24 : Nat), (79 : Nat))]) {r : Int32} {h' : zH} {s0 : Nat} {h : zH} (hf : f_X0_deliver_b20 E s0 h = some (r, h')) : zW p l e R s m args below meth c D B0 8 (zEnd D B0 R below args s (zoI r) h') h 20 [] [.ref s0] := by
  unfold f_X0_deliver_b20 at hf
  refine zr_astore (i := 7) (lv' := [(7, .ref s0)]) C0 dX0_deliver_20 (by decide) (by first | rfl | simp [zst1, zst2, zcat_rf]) ?_
  refine zr_iconst C0 (v := 2) dX0_deliver_22 (by decide) ?_
  refine zretW hf ?_
  exact zr_iret C0 (ty := .int) rfl rfl dX0_deliver_23 rfl
def f_X0_deliver_b24 (E : zE) (s0 : Nat) (h : zH) : Option (Int32 × zH) :=
  some ((3 : Int32), h)
theorem w_X0_deliver_b24 (C0 : zCx p l e R s m args below meth c D B0 8 "FranchiseLedgerLaw" cX0_deliver E 12 202 (Option.some Jvm.ClassFile.FieldType.int) "deliver") (ht : c.exceptionTable.toList = tableOf [((0 : Nat), (13 : Nat), (16 : Nat), (22 : Nat)), ((0 : Nat), (13 : Nat), (20 : Nat), (13 : Nat)), ((0 : Nat), (13 : Nat), (24 : Nat), (79 : Nat))]) {r : Int32} {h' : zH} {s0 : Nat} {h : zH} (hf : f_X0_deliver_b24 E s0 h = some (r, h')) : zW p l e R s m args below meth c D B0 8 (zEnd D B0 R below args s (zoI r) h') h 24 [] [.ref s0] := by
  unfold f_X0_deliver_b24 at hf
  refine zr_astore (i := 7) (lv' := [(7, .ref s0)]) C0 dX0_deliver_24 (by decide) (by first | rfl | simp [zst1, zst2, zcat_rf]) ?_
  refine zr_iconst C0 (v := 3) dX0_deliver_26 (by decide) ?_
  refine zretW hf ?_
  exact zr_iret C0 (ty := .int) rfl rfl dX0_deliver_27 rfl
def f_X0_deliver_b0 (E : zE) (p0 : Nat) (p1 : Int32) (p2 : Int32) (p3 : Int32) (p4 : Int64) (p6 : Nat) (h : zH) : Option (Int32 × zH) :=
  (cko h p0 0).bind fun _ =>
  bnd2 (f_X1_deliver E p0 p1 p2 p3 p4 h) fun x4 h2 =>
  Sum.elim (fun x5 => (
    (sL h2 p6 (0 : Int32) x5).bind fun h7 =>
    some ((0 : Int32), h7)
  )) (fun q6 => (
    if q6.1 = 20 then (
      f_X0_deliver_b16 E q6.2 h2
    ) else (
    if q6.1 = 21 then (
      f_X0_deliver_b20 E q6.2 h2
    ) else (
    if q6.1 = 22 then (
      f_X0_deliver_b24 E q6.2 h2
    ) else (
    none
    )))
  )) x4
theorem w_X0_deliver_b0 (C0 : zCx p l e R s m args below meth c D B0 8 "FranchiseLedgerLaw" cX0_deliver E 12 202 (Option.some Jvm.ClassFile.FieldType.int) "deliver") (ht : c.exceptionTable.toList = tableOf [((0 : Nat), (13 : Nat), (16 : Nat), (22 : Nat)), ((0 : Nat), (13 : Nat), (20 : Nat), (13 : Nat)), ((0 : Nat), (13 : Nat), (24 : Nat), (79 : Nat))]) {r : Int32} {h' : zH} {p0 : Nat} {p1 : Int32} {p2 : Int32} {p3 : Int32} {p4 : Int64} {p6 : Nat} {h : zH} (hf : f_X0_deliver_b0 E p0 p1 p2 p3 p4 p6 h = some (r, h')) : zW p l e R s m args below meth c D B0 8 (zEnd D B0 R below args s (zoI r) h') h 0 [(0, .ref p0), (1, .int p1), (2, .int p2), (3, .int p3), (4, .long p4), (6, .ref p6)] [] := by
  unfold f_X0_deliver_b0 at hf
  refine zr_aload C0 dX0_deliver_0 5 rfl ?_
  refine zr_iconst C0 (v := 0) dX0_deliver_2 (by decide) ?_
  refine zr_aload_n C0 dX0_deliver_3 rfl 0 rfl ?_
  refine zr_iload_n C0 dX0_deliver_4 rfl 1 rfl ?_
  refine zr_iload_n C0 dX0_deliver_5 rfl 2 rfl ?_
  refine zr_iload_n C0 dX0_deliver_6 rfl 3 rfl ?_
  refine zr_lload C0 dX0_deliver_7 4 rfl ?_
  obtain ⟨_, e1, hf⟩ := zbind hf
  obtain ⟨x4, h2, e3, hf⟩ := zbind2 hf
  rcases x4 with x5 | q6
  · have hf := zinl hf
    refine zr_callV_r C0 cv_X0_81_X1 rfl (zcko e1) (m_X1_deliver C0.2.2.2.2.2.2.1 e3) (by decide) (by decide) rfl rfl (Nat.le_of_ble_eq_true rfl) dX0_deliver_9 rfl ?_
    obtain ⟨h7, e8, hf⟩ := zbind hf
    refine zr_last C0 dX0_deliver_12 e8 ?_
    refine zr_goto C0 (tgt := 28) dX0_deliver_13 (by decide) ?_
    refine zr_iconst C0 (v := 0) dX0_deliver_28 (by decide) ?_
    refine zretW hf ?_
    exact zr_iret C0 (ty := .int) rfl rfl dX0_deliver_29 rfl
  · have hf := zinr hf
    rcases Decidable.em (q6.1 = 20) with c9 | c9
    · obtain ⟨q1, q2⟩ := q6
      subst c9
      have hf := zif_t rfl hf
      refine zr_callV_t C0 cv_X0_81_X1 rfl (zcko e1) (m_X1_deliver C0.2.2.2.2.2.2.1 e3) (by decide) (by decide) rfl rfl (Nat.le_of_ble_eq_true rfl) dX0_deliver_9 (zr_catch C0 (tableOf []) ⟨0, 13, 16, 22⟩ (tableOf [(0, 13, 20, 13), (0, 13, 24, 79)]) (by rw [ht]; rfl) rfl (fun z hz => by cases hz) (by decide) (by decide) q2014 q787 ?_)
      refine zr_sub [] rfl ?_
      exact w_X0_deliver_b16 C0 ht hf
    have hf := zif_f c9 hf
    rcases Decidable.em (q6.1 = 21) with c10 | c10
    · obtain ⟨q1, q2⟩ := q6
      subst c10
      have hf := zif_t rfl hf
      refine zr_callV_t C0 cv_X0_81_X1 rfl (zcko e1) (m_X1_deliver C0.2.2.2.2.2.2.1 e3) (by decide) (by decide) rfl rfl (Nat.le_of_ble_eq_true rfl) dX0_deliver_9 (zr_catch C0 (tableOf [(0, 13, 16, 22)]) ⟨0, 13, 20, 13⟩ (tableOf [(0, 13, 24, 79)]) (by rw [ht]; rfl) rfl (show ∀ z ∈ tableOf [(0, 13, 16, 22)], _ from (List.forall_mem_cons.mpr ⟨Or.inr ⟨by decide, "java/lang/IndexOutOfBoundsException", q2014, by decide +kernel⟩, (List.forall_mem_nil _)⟩)) (by decide) (by decide) q1743 q208 ?_)
      refine zr_sub [] rfl ?_
      exact w_X0_deliver_b20 C0 ht hf
    have hf := zif_f c10 hf
    rcases Decidable.em (q6.1 = 22) with c11 | c11
    · obtain ⟨q1, q2⟩ := q6
      subst c11
      have hf := zif_t rfl hf
      refine zr_callV_t C0 cv_X0_81_X1 rfl (zcko e1) (m_X1_deliver C0.2.2.2.2.2.2.1 e3) (by decide) (by decide) rfl rfl (Nat.le_of_ble_eq_true rfl) dX0_deliver_9 (zr_catch C0 (tableOf [(0, 13, 16, 22), (0, 13, 20, 13)]) ⟨0, 13, 24, 79⟩ (tableOf []) (by rw [ht]; rfl) rfl (show ∀ z ∈ tableOf [(0, 13, 16, 22), (0, 13, 20, 13)], _ from (List.forall_mem_cons.mpr ⟨Or.inr ⟨by decide, "java/lang/IndexOutOfBoundsException", q2014, by decide +kernel⟩, (List.forall_mem_cons.mpr ⟨Or.inr ⟨by decide, "java/lang/IllegalArgumentException", q1743, by decide +kernel⟩, (List.forall_mem_nil _)⟩)⟩)) (by decide) (by decide) q2219 q1841 ?_)
      refine zr_sub [] rfl ?_
      exact w_X0_deliver_b24 C0 ht hf
    have hf := zif_f c11 hf
    cases hf
def f_X0_deliver (E : zE) (p0 : Nat) (p1 : Int32) (p2 : Int32) (p3 : Int32) (p4 : Int64) (p6 : Nat) (h : zH) : Option (Int32 × zH) := f_X0_deliver_b0 E p0 p1 p2 p3 p4 p6 h
theorem m_X0_deliver {l : Launch} (hst : l.stackTraces = false) {D : zD} {B0 : Nat} {E : zE} {p0 : Nat} {p1 : Int32} {p2 : Int32} {p3 : Int32} {p4 : Int64} {p6 : Nat} {h h' : zH} {r : Int32} (hf : f_X0_deliver E p0 p1 p2 p3 p4 p6 h = some (r, h')) : zMet l yX0_deliver (wsW_ yX0_deliver cX0_deliver 8 (Option.some Jvm.ClassFile.FieldType.int) [((0 : Nat), (13 : Nat), (16 : Nat), (22 : Nat)), ((0 : Nat), (13 : Nat), (20 : Nat), (13 : Nat)), ((0 : Nat), (13 : Nat), (24 : Nat), (79 : Nat))]) 12 202 D B0 E [.ref p0, .int p1, .int p2, .int p3, .long p4, .ref p6] h (zoI r) h' := by
  unfold f_X0_deliver at hf
  refine zMet_ofH hst (by decide +kernel) rfl rfl (Nat.le_of_ble_eq_true rfl) (fun p e R s m below meth c C0 ht => ?_)
  show zW _ _ _ _ _ _ _ _ _ _ _ _ _ _ _ _ [(0, .ref p0), (1, .int p1), (2, .int p2), (3, .int p3), (4, .long p4), (6, .ref p6)] []
  exact w_X0_deliver_b0 C0 ht hf
def f_X0_sales_b11 (E : zE) (s0 : Nat) (h : zH) : Option (Int32 × zH) :=
  some ((1 : Int32), h)
theorem w_X0_sales_b11 (C0 : zCx p l e R s m args below meth c D B0 4 "FranchiseLedgerLaw" cX0_sales E 12 196 (Option.some Jvm.ClassFile.FieldType.int) "sales") (ht : c.exceptionTable.toList = tableOf [((0 : Nat), (8 : Nat), (11 : Nat), (22 : Nat))]) {r : Int32} {h' : zH} {s0 : Nat} {h : zH} (hf : f_X0_sales_b11 E s0 h = some (r, h')) : zW p l e R s m args below meth c D B0 4 (zEnd D B0 R below args s (zoI r) h') h 11 [] [.ref s0] := by
  unfold f_X0_sales_b11 at hf
  refine zr_astore_n (i := 3) (lv' := [(3, .ref s0)]) C0 dX0_sales_11 rfl (by decide) (by first | rfl | simp [zst1, zst2, zcat_rf]) ?_
  refine zr_iconst C0 (v := 1) dX0_sales_12 (by decide) ?_
  refine zretW hf ?_
  exact zr_iret C0 (ty := .int) rfl rfl dX0_sales_13 rfl
def f_X0_sales_b0 (E : zE) (p0 : Nat) (p1 : Int32) (p2 : Nat) (h : zH) : Option (Int32 × zH) :=
  (cko h p0 0).bind fun _ =>
  bnd2 (f_X1_sales E p0 p1 h) fun x4 h2 =>
  Sum.elim (fun x5 => (
    (sL h2 p2 (0 : Int32) x5).bind fun h7 =>
    some ((0 : Int32), h7)
  )) (fun q6 => (
    if q6.1 = 20 then (
      f_X0_sales_b11 E q6.2 h2
    ) else (
    none
    )
  )) x4
theorem w_X0_sales_b0 (C0 : zCx p l e R s m args below meth c D B0 4 "FranchiseLedgerLaw" cX0_sales E 12 196 (Option.some Jvm.ClassFile.FieldType.int) "sales") (ht : c.exceptionTable.toList = tableOf [((0 : Nat), (8 : Nat), (11 : Nat), (22 : Nat))]) {r : Int32} {h' : zH} {p0 : Nat} {p1 : Int32} {p2 : Nat} {h : zH} (hf : f_X0_sales_b0 E p0 p1 p2 h = some (r, h')) : zW p l e R s m args below meth c D B0 4 (zEnd D B0 R below args s (zoI r) h') h 0 [(0, .ref p0), (1, .int p1), (2, .ref p2)] [] := by
  unfold f_X0_sales_b0 at hf
  refine zr_aload_n C0 dX0_sales_0 rfl 2 rfl ?_
  refine zr_iconst C0 (v := 0) dX0_sales_1 (by decide) ?_
  refine zr_aload_n C0 dX0_sales_2 rfl 0 rfl ?_
  refine zr_iload_n C0 dX0_sales_3 rfl 1 rfl ?_
  obtain ⟨_, e1, hf⟩ := zbind hf
  obtain ⟨x4, h2, e3, hf⟩ := zbind2 hf
  rcases x4 with x5 | q6
  · have hf := zinl hf
    refine zr_callV_r C0 cv_X0_85_X1 rfl (zcko e1) (m_X1_sales C0.2.2.2.2.2.2.1 e3) (by decide) (by decide) rfl rfl (Nat.le_of_ble_eq_true rfl) dX0_sales_4 rfl ?_
    obtain ⟨h7, e8, hf⟩ := zbind hf
    refine zr_last C0 dX0_sales_7 e8 ?_
    refine zr_goto C0 (tgt := 14) dX0_sales_8 (by decide) ?_
    refine zr_iconst C0 (v := 0) dX0_sales_14 (by decide) ?_
    refine zretW hf ?_
    exact zr_iret C0 (ty := .int) rfl rfl dX0_sales_15 rfl
  · have hf := zinr hf
    rcases Decidable.em (q6.1 = 20) with c9 | c9
    · obtain ⟨q1, q2⟩ := q6
      subst c9
      have hf := zif_t rfl hf
      refine zr_callV_t C0 cv_X0_85_X1 rfl (zcko e1) (m_X1_sales C0.2.2.2.2.2.2.1 e3) (by decide) (by decide) rfl rfl (Nat.le_of_ble_eq_true rfl) dX0_sales_4 (zr_catch C0 (tableOf []) ⟨0, 8, 11, 22⟩ (tableOf []) (by rw [ht]; rfl) rfl (fun z hz => by cases hz) (by decide) (by decide) q2014 q787 ?_)
      refine zr_sub [] rfl ?_
      exact w_X0_sales_b11 C0 ht hf
    have hf := zif_f c9 hf
    cases hf
def f_X0_sales (E : zE) (p0 : Nat) (p1 : Int32) (p2 : Nat) (h : zH) : Option (Int32 × zH) := f_X0_sales_b0 E p0 p1 p2 h
theorem m_X0_sales {l : Launch} (hst : l.stackTraces = false) {D : zD} {B0 : Nat} {E : zE} {p0 : Nat} {p1 : Int32} {p2 : Nat} {h h' : zH} {r : Int32} (hf : f_X0_sales E p0 p1 p2 h = some (r, h')) : zMet l yX0_sales (wsW_ yX0_sales cX0_sales 4 (Option.some Jvm.ClassFile.FieldType.int) [((0 : Nat), (8 : Nat), (11 : Nat), (22 : Nat))]) 12 196 D B0 E [.ref p0, .int p1, .ref p2] h (zoI r) h' := by
  unfold f_X0_sales at hf
  refine zMet_ofH hst (by decide +kernel) rfl rfl (Nat.le_of_ble_eq_true rfl) (fun p e R s m below meth c C0 ht => ?_)
  show zW _ _ _ _ _ _ _ _ _ _ _ _ _ _ _ _ [(0, .ref p0), (1, .int p1), (2, .ref p2)] []
  exact w_X0_sales_b0 C0 ht hf
def f_X0_salesOf_b12 (E : zE) (s0 : Nat) (h : zH) : Option (Int32 × zH) :=
  some ((1 : Int32), h)
theorem w_X0_salesOf_b12 (C0 : zCx p l e R s m args below meth c D B0 5 "FranchiseLedgerLaw" cX0_salesOf E 12 198 (Option.some Jvm.ClassFile.FieldType.int) "salesOf") (ht : c.exceptionTable.toList = tableOf [((0 : Nat), (9 : Nat), (12 : Nat), (22 : Nat)), ((0 : Nat), (9 : Nat), (16 : Nat), (13 : Nat))]) {r : Int32} {h' : zH} {s0 : Nat} {h : zH} (hf : f_X0_salesOf_b12 E s0 h = some (r, h')) : zW p l e R s m args below meth c D B0 5 (zEnd D B0 R below args s (zoI r) h') h 12 [] [.ref s0] := by
  unfold f_X0_salesOf_b12 at hf
  refine zr_astore (i := 4) (lv' := [(4, .ref s0)]) C0 dX0_salesOf_12 (by decide) (by first | rfl | simp [zst1, zst2, zcat_rf]) ?_
  refine zr_iconst C0 (v := 1) dX0_salesOf_14 (by decide) ?_
  refine zretW hf ?_
  exact zr_iret C0 (ty := .int) rfl rfl dX0_salesOf_15 rfl
def f_X0_salesOf_b16 (E : zE) (s0 : Nat) (h : zH) : Option (Int32 × zH) :=
  some ((2 : Int32), h)
theorem w_X0_salesOf_b16 (C0 : zCx p l e R s m args below meth c D B0 5 "FranchiseLedgerLaw" cX0_salesOf E 12 198 (Option.some Jvm.ClassFile.FieldType.int) "salesOf") (ht : c.exceptionTable.toList = tableOf [((0 : Nat), (9 : Nat), (12 : Nat), (22 : Nat)), ((0 : Nat), (9 : Nat), (16 : Nat), (13 : Nat))]) {r : Int32} {h' : zH} {s0 : Nat} {h : zH} (hf : f_X0_salesOf_b16 E s0 h = some (r, h')) : zW p l e R s m args below meth c D B0 5 (zEnd D B0 R below args s (zoI r) h') h 16 [] [.ref s0] := by
  unfold f_X0_salesOf_b16 at hf
  refine zr_astore (i := 4) (lv' := [(4, .ref s0)]) C0 dX0_salesOf_16 (by decide) (by first | rfl | simp [zst1, zst2, zcat_rf]) ?_
  refine zr_iconst C0 (v := 2) dX0_salesOf_18 (by decide) ?_
  refine zretW hf ?_
  exact zr_iret C0 (ty := .int) rfl rfl dX0_salesOf_19 rfl
def f_X0_salesOf_b0 (E : zE) (p0 : Nat) (p1 : Int32) (p2 : Int32) (p3 : Nat) (h : zH) : Option (Int32 × zH) :=
  (cko h p0 0).bind fun _ =>
  bnd2 (f_X1_salesOf E p0 p1 p2 h) fun x4 h2 =>
  Sum.elim (fun x5 => (
    (sL h2 p3 (0 : Int32) x5).bind fun h7 =>
    some ((0 : Int32), h7)
  )) (fun q6 => (
    if q6.1 = 20 then (
      f_X0_salesOf_b12 E q6.2 h2
    ) else (
    if q6.1 = 21 then (
      f_X0_salesOf_b16 E q6.2 h2
    ) else (
    none
    ))
  )) x4
theorem w_X0_salesOf_b0 (C0 : zCx p l e R s m args below meth c D B0 5 "FranchiseLedgerLaw" cX0_salesOf E 12 198 (Option.some Jvm.ClassFile.FieldType.int) "salesOf") (ht : c.exceptionTable.toList = tableOf [((0 : Nat), (9 : Nat), (12 : Nat), (22 : Nat)), ((0 : Nat), (9 : Nat), (16 : Nat), (13 : Nat))]) {r : Int32} {h' : zH} {p0 : Nat} {p1 : Int32} {p2 : Int32} {p3 : Nat} {h : zH} (hf : f_X0_salesOf_b0 E p0 p1 p2 p3 h = some (r, h')) : zW p l e R s m args below meth c D B0 5 (zEnd D B0 R below args s (zoI r) h') h 0 [(0, .ref p0), (1, .int p1), (2, .int p2), (3, .ref p3)] [] := by
  unfold f_X0_salesOf_b0 at hf
  refine zr_aload_n C0 dX0_salesOf_0 rfl 3 rfl ?_
  refine zr_iconst C0 (v := 0) dX0_salesOf_1 (by decide) ?_
  refine zr_aload_n C0 dX0_salesOf_2 rfl 0 rfl ?_
  refine zr_iload_n C0 dX0_salesOf_3 rfl 1 rfl ?_
  refine zr_iload_n C0 dX0_salesOf_4 rfl 2 rfl ?_
  obtain ⟨_, e1, hf⟩ := zbind hf
  obtain ⟨x4, h2, e3, hf⟩ := zbind2 hf
  rcases x4 with x5 | q6
  · have hf := zinl hf
    refine zr_callV_r C0 cv_X0_89_X1 rfl (zcko e1) (m_X1_salesOf C0.2.2.2.2.2.2.1 e3) (by decide) (by decide) rfl rfl (Nat.le_of_ble_eq_true rfl) dX0_salesOf_5 rfl ?_
    obtain ⟨h7, e8, hf⟩ := zbind hf
    refine zr_last C0 dX0_salesOf_8 e8 ?_
    refine zr_goto C0 (tgt := 20) dX0_salesOf_9 (by decide) ?_
    refine zr_iconst C0 (v := 0) dX0_salesOf_20 (by decide) ?_
    refine zretW hf ?_
    exact zr_iret C0 (ty := .int) rfl rfl dX0_salesOf_21 rfl
  · have hf := zinr hf
    rcases Decidable.em (q6.1 = 20) with c9 | c9
    · obtain ⟨q1, q2⟩ := q6
      subst c9
      have hf := zif_t rfl hf
      refine zr_callV_t C0 cv_X0_89_X1 rfl (zcko e1) (m_X1_salesOf C0.2.2.2.2.2.2.1 e3) (by decide) (by decide) rfl rfl (Nat.le_of_ble_eq_true rfl) dX0_salesOf_5 (zr_catch C0 (tableOf []) ⟨0, 9, 12, 22⟩ (tableOf [(0, 9, 16, 13)]) (by rw [ht]; rfl) rfl (fun z hz => by cases hz) (by decide) (by decide) q2014 q787 ?_)
      refine zr_sub [] rfl ?_
      exact w_X0_salesOf_b12 C0 ht hf
    have hf := zif_f c9 hf
    rcases Decidable.em (q6.1 = 21) with c10 | c10
    · obtain ⟨q1, q2⟩ := q6
      subst c10
      have hf := zif_t rfl hf
      refine zr_callV_t C0 cv_X0_89_X1 rfl (zcko e1) (m_X1_salesOf C0.2.2.2.2.2.2.1 e3) (by decide) (by decide) rfl rfl (Nat.le_of_ble_eq_true rfl) dX0_salesOf_5 (zr_catch C0 (tableOf [(0, 9, 12, 22)]) ⟨0, 9, 16, 13⟩ (tableOf []) (by rw [ht]; rfl) rfl (show ∀ z ∈ tableOf [(0, 9, 12, 22)], _ from (List.forall_mem_cons.mpr ⟨Or.inr ⟨by decide, "java/lang/IndexOutOfBoundsException", q2014, by decide +kernel⟩, (List.forall_mem_nil _)⟩)) (by decide) (by decide) q1743 q208 ?_)
      refine zr_sub [] rfl ?_
      exact w_X0_salesOf_b16 C0 ht hf
    have hf := zif_f c10 hf
    cases hf
def f_X0_salesOf (E : zE) (p0 : Nat) (p1 : Int32) (p2 : Int32) (p3 : Nat) (h : zH) : Option (Int32 × zH) := f_X0_salesOf_b0 E p0 p1 p2 p3 h
theorem m_X0_salesOf {l : Launch} (hst : l.stackTraces = false) {D : zD} {B0 : Nat} {E : zE} {p0 : Nat} {p1 : Int32} {p2 : Int32} {p3 : Nat} {h h' : zH} {r : Int32} (hf : f_X0_salesOf E p0 p1 p2 p3 h = some (r, h')) : zMet l yX0_salesOf (wsW_ yX0_salesOf cX0_salesOf 5 (Option.some Jvm.ClassFile.FieldType.int) [((0 : Nat), (9 : Nat), (12 : Nat), (22 : Nat)), ((0 : Nat), (9 : Nat), (16 : Nat), (13 : Nat))]) 12 198 D B0 E [.ref p0, .int p1, .int p2, .ref p3] h (zoI r) h' := by
  unfold f_X0_salesOf at hf
  refine zMet_ofH hst (by decide +kernel) rfl rfl (Nat.le_of_ble_eq_true rfl) (fun p e R s m below meth c C0 ht => ?_)
  show zW _ _ _ _ _ _ _ _ _ _ _ _ _ _ _ _ [(0, .ref p0), (1, .int p1), (2, .int p2), (3, .ref p3)] []
  exact w_X0_salesOf_b0 C0 ht hf
def f_X0_creditDue_b12 (E : zE) (s0 : Nat) (h : zH) : Option (Int32 × zH) :=
  some ((1 : Int32), h)
theorem w_X0_creditDue_b12 (C0 : zCx p l e R s m args below meth c D B0 5 "FranchiseLedgerLaw" cX0_creditDue E 11 176 (Option.some Jvm.ClassFile.FieldType.int) "creditDue") (ht : c.exceptionTable.toList = tableOf [((0 : Nat), (9 : Nat), (12 : Nat), (22 : Nat))]) {r : Int32} {h' : zH} {s0 : Nat} {h : zH} (hf : f_X0_creditDue_b12 E s0 h = some (r, h')) : zW p l e R s m args below meth c D B0 5 (zEnd D B0 R below args s (zoI r) h') h 12 [] [.ref s0] := by
  unfold f_X0_creditDue_b12 at hf
  refine zr_astore (i := 4) (lv' := [(4, .ref s0)]) C0 dX0_creditDue_12 (by decide) (by first | rfl | simp [zst1, zst2, zcat_rf]) ?_
  refine zr_iconst C0 (v := 1) dX0_creditDue_14 (by decide) ?_
  refine zretW hf ?_
  exact zr_iret C0 (ty := .int) rfl rfl dX0_creditDue_15 rfl
def f_X0_creditDue_b0 (E : zE) (p0 : Nat) (p1 : Int32) (p2 : Int32) (p3 : Nat) (h : zH) : Option (Int32 × zH) :=
  (cko h p0 0).bind fun _ =>
  bnd2 (f_X1_creditDue E p0 p1 p2 h) fun x4 h2 =>
  Sum.elim (fun x5 => (
    (sL h2 p3 (0 : Int32) x5).bind fun h7 =>
    some ((0 : Int32), h7)
  )) (fun q6 => (
    if q6.1 = 20 then (
      f_X0_creditDue_b12 E q6.2 h2
    ) else (
    none
    )
  )) x4
theorem w_X0_creditDue_b0 (C0 : zCx p l e R s m args below meth c D B0 5 "FranchiseLedgerLaw" cX0_creditDue E 11 176 (Option.some Jvm.ClassFile.FieldType.int) "creditDue") (ht : c.exceptionTable.toList = tableOf [((0 : Nat), (9 : Nat), (12 : Nat), (22 : Nat))]) {r : Int32} {h' : zH} {p0 : Nat} {p1 : Int32} {p2 : Int32} {p3 : Nat} {h : zH} (hf : f_X0_creditDue_b0 E p0 p1 p2 p3 h = some (r, h')) : zW p l e R s m args below meth c D B0 5 (zEnd D B0 R below args s (zoI r) h') h 0 [(0, .ref p0), (1, .int p1), (2, .int p2), (3, .ref p3)] [] := by
  unfold f_X0_creditDue_b0 at hf
  refine zr_aload_n C0 dX0_creditDue_0 rfl 3 rfl ?_
  refine zr_iconst C0 (v := 0) dX0_creditDue_1 (by decide) ?_
  refine zr_aload_n C0 dX0_creditDue_2 rfl 0 rfl ?_
  refine zr_iload_n C0 dX0_creditDue_3 rfl 1 rfl ?_
  refine zr_iload_n C0 dX0_creditDue_4 rfl 2 rfl ?_
  obtain ⟨_, e1, hf⟩ := zbind hf
  obtain ⟨x4, h2, e3, hf⟩ := zbind2 hf
  rcases x4 with x5 | q6
  · have hf := zinl hf
    refine zr_callV_r C0 cv_X0_93_X1 rfl (zcko e1) (m_X1_creditDue C0.2.2.2.2.2.2.1 e3) (by decide) (by decide) rfl rfl (Nat.le_of_ble_eq_true rfl) dX0_creditDue_5 rfl ?_
    obtain ⟨h7, e8, hf⟩ := zbind hf
    refine zr_last C0 dX0_creditDue_8 e8 ?_
    refine zr_goto C0 (tgt := 16) dX0_creditDue_9 (by decide) ?_
    refine zr_iconst C0 (v := 0) dX0_creditDue_16 (by decide) ?_
    refine zretW hf ?_
    exact zr_iret C0 (ty := .int) rfl rfl dX0_creditDue_17 rfl
  · have hf := zinr hf
    rcases Decidable.em (q6.1 = 20) with c9 | c9
    · obtain ⟨q1, q2⟩ := q6
      subst c9
      have hf := zif_t rfl hf
      refine zr_callV_t C0 cv_X0_93_X1 rfl (zcko e1) (m_X1_creditDue C0.2.2.2.2.2.2.1 e3) (by decide) (by decide) rfl rfl (Nat.le_of_ble_eq_true rfl) dX0_creditDue_5 (zr_catch C0 (tableOf []) ⟨0, 9, 12, 22⟩ (tableOf []) (by rw [ht]; rfl) rfl (fun z hz => by cases hz) (by decide) (by decide) q2014 q787 ?_)
      refine zr_sub [] rfl ?_
      exact w_X0_creditDue_b12 C0 ht hf
    have hf := zif_f c9 hf
    cases hf
def f_X0_creditDue (E : zE) (p0 : Nat) (p1 : Int32) (p2 : Int32) (p3 : Nat) (h : zH) : Option (Int32 × zH) := f_X0_creditDue_b0 E p0 p1 p2 p3 h
theorem m_X0_creditDue {l : Launch} (hst : l.stackTraces = false) {D : zD} {B0 : Nat} {E : zE} {p0 : Nat} {p1 : Int32} {p2 : Int32} {p3 : Nat} {h h' : zH} {r : Int32} (hf : f_X0_creditDue E p0 p1 p2 p3 h = some (r, h')) : zMet l yX0_creditDue (wsW_ yX0_creditDue cX0_creditDue 5 (Option.some Jvm.ClassFile.FieldType.int) [((0 : Nat), (9 : Nat), (12 : Nat), (22 : Nat))]) 11 176 D B0 E [.ref p0, .int p1, .int p2, .ref p3] h (zoI r) h' := by
  unfold f_X0_creditDue at hf
  refine zMet_ofH hst (by decide +kernel) rfl rfl (Nat.le_of_ble_eq_true rfl) (fun p e R s m below meth c C0 ht => ?_)
  show zW _ _ _ _ _ _ _ _ _ _ _ _ _ _ _ _ [(0, .ref p0), (1, .int p1), (2, .int p2), (3, .ref p3)] []
  exact w_X0_creditDue_b0 C0 ht hf
def f_X0_closeMonth_b11 (E : zE) (s0 : Nat) (h : zH) : Option (Int32 × zH) :=
  some ((1 : Int32), h)
theorem w_X0_closeMonth_b11 (C0 : zCx p l e R s m args below meth c D B0 3 "FranchiseLedgerLaw" cX0_closeMonth E 11 224 (Option.some Jvm.ClassFile.FieldType.int) "closeMonth") (ht : c.exceptionTable.toList = tableOf [((0 : Nat), (8 : Nat), (11 : Nat), (79 : Nat))]) {r : Int32} {h' : zH} {s0 : Nat} {h : zH} (hf : f_X0_closeMonth_b11 E s0 h = some (r, h')) : zW p l e R s m args below meth c D B0 3 (zEnd D B0 R below args s (zoI r) h') h 11 [] [.ref s0] := by
  unfold f_X0_closeMonth_b11 at hf
  refine zr_astore_n (i := 2) (lv' := [(2, .ref s0)]) C0 dX0_closeMonth_11 rfl (by decide) (by first | rfl | simp [zst1, zst2, zcat_rf]) ?_
  refine zr_iconst C0 (v := 1) dX0_closeMonth_12 (by decide) ?_
  refine zretW hf ?_
  exact zr_iret C0 (ty := .int) rfl rfl dX0_closeMonth_13 rfl
def f_X0_closeMonth_b0 (E : zE) (p0 : Nat) (p1 : Nat) (h : zH) : Option (Int32 × zH) :=
  (cko h p0 0).bind fun _ =>
  bnd2 (f_X1_closeMonth E p0 h) fun x4 h2 =>
  Sum.elim (fun x5 => (
    (sL h2 p1 (0 : Int32) (x5.toInt64)).bind fun h7 =>
    some ((0 : Int32), h7)
  )) (fun q6 => (
    if q6.1 = 22 then (
      f_X0_closeMonth_b11 E q6.2 h2
    ) else (
    none
    )
  )) x4
theorem w_X0_closeMonth_b0 (C0 : zCx p l e R s m args below meth c D B0 3 "FranchiseLedgerLaw" cX0_closeMonth E 11 224 (Option.some Jvm.ClassFile.FieldType.int) "closeMonth") (ht : c.exceptionTable.toList = tableOf [((0 : Nat), (8 : Nat), (11 : Nat), (79 : Nat))]) {r : Int32} {h' : zH} {p0 : Nat} {p1 : Nat} {h : zH} (hf : f_X0_closeMonth_b0 E p0 p1 h = some (r, h')) : zW p l e R s m args below meth c D B0 3 (zEnd D B0 R below args s (zoI r) h') h 0 [(0, .ref p0), (1, .ref p1)] [] := by
  unfold f_X0_closeMonth_b0 at hf
  refine zr_aload_n C0 dX0_closeMonth_0 rfl 1 rfl ?_
  refine zr_iconst C0 (v := 0) dX0_closeMonth_1 (by decide) ?_
  refine zr_aload_n C0 dX0_closeMonth_2 rfl 0 rfl ?_
  obtain ⟨_, e1, hf⟩ := zbind hf
  obtain ⟨x4, h2, e3, hf⟩ := zbind2 hf
  rcases x4 with x5 | q6
  · have hf := zinl hf
    refine zr_callV_r C0 cv_X0_96_X1 rfl (zcko e1) (m_X1_closeMonth C0.2.2.2.2.2.2.1 e3) (by decide) (by decide) rfl rfl (Nat.le_of_ble_eq_true rfl) dX0_closeMonth_3 rfl ?_
    refine zr_i2l C0 dX0_closeMonth_6 ?_
    obtain ⟨h7, e8, hf⟩ := zbind hf
    refine zr_last C0 dX0_closeMonth_7 e8 ?_
    refine zr_goto C0 (tgt := 14) dX0_closeMonth_8 (by decide) ?_
    refine zr_iconst C0 (v := 0) dX0_closeMonth_14 (by decide) ?_
    refine zretW hf ?_
    exact zr_iret C0 (ty := .int) rfl rfl dX0_closeMonth_15 rfl
  · have hf := zinr hf
    rcases Decidable.em (q6.1 = 22) with c9 | c9
    · obtain ⟨q1, q2⟩ := q6
      subst c9
      have hf := zif_t rfl hf
      refine zr_callV_t C0 cv_X0_96_X1 rfl (zcko e1) (m_X1_closeMonth C0.2.2.2.2.2.2.1 e3) (by decide) (by decide) rfl rfl (Nat.le_of_ble_eq_true rfl) dX0_closeMonth_3 (zr_catch C0 (tableOf []) ⟨0, 8, 11, 79⟩ (tableOf []) (by rw [ht]; rfl) rfl (fun z hz => by cases hz) (by decide) (by decide) q2219 q1841 ?_)
      refine zr_sub [] rfl ?_
      exact w_X0_closeMonth_b11 C0 ht hf
    have hf := zif_f c9 hf
    cases hf
def f_X0_closeMonth (E : zE) (p0 : Nat) (p1 : Nat) (h : zH) : Option (Int32 × zH) := f_X0_closeMonth_b0 E p0 p1 h
theorem m_X0_closeMonth {l : Launch} (hst : l.stackTraces = false) {D : zD} {B0 : Nat} {E : zE} {p0 : Nat} {p1 : Nat} {h h' : zH} {r : Int32} (hf : f_X0_closeMonth E p0 p1 h = some (r, h')) : zMet l yX0_closeMonth (wsW_ yX0_closeMonth cX0_closeMonth 3 (Option.some Jvm.ClassFile.FieldType.int) [((0 : Nat), (8 : Nat), (11 : Nat), (79 : Nat))]) 11 224 D B0 E [.ref p0, .ref p1] h (zoI r) h' := by
  unfold f_X0_closeMonth at hf
  refine zMet_ofH hst (by decide +kernel) rfl rfl (Nat.le_of_ble_eq_true rfl) (fun p e R s m below meth c C0 ht => ?_)
  show zW _ _ _ _ _ _ _ _ _ _ _ _ _ _ _ _ [(0, .ref p0), (1, .ref p1)] []
  exact w_X0_closeMonth_b0 C0 ht hf
def f_X0_invoice_b14 (E : zE) (s0 : Nat) (h : zH) : Option (Int32 × zH) :=
  some ((1 : Int32), h)
theorem w_X0_invoice_b14 (C0 : zCx p l e R s m args below meth c D B0 6 "FranchiseLedgerLaw" cX0_invoice E 12 199 (Option.some Jvm.ClassFile.FieldType.int) "invoice") (ht : c.exceptionTable.toList = tableOf [((0 : Nat), (11 : Nat), (14 : Nat), (22 : Nat)), ((0 : Nat), (11 : Nat), (18 : Nat), (13 : Nat))]) {r : Int32} {h' : zH} {s0 : Nat} {h : zH} (hf : f_X0_invoice_b14 E s0 h = some (r, h')) : zW p l e R s m args below meth c D B0 6 (zEnd D B0 R below args s (zoI r) h') h 14 [] [.ref s0] := by
  unfold f_X0_invoice_b14 at hf
  refine zr_astore (i := 5) (lv' := [(5, .ref s0)]) C0 dX0_invoice_14 (by decide) (by first | rfl | simp [zst1, zst2, zcat_rf]) ?_
  refine zr_iconst C0 (v := 1) dX0_invoice_16 (by decide) ?_
  refine zretW hf ?_
  exact zr_iret C0 (ty := .int) rfl rfl dX0_invoice_17 rfl
def f_X0_invoice_b18 (E : zE) (s0 : Nat) (h : zH) : Option (Int32 × zH) :=
  some ((2 : Int32), h)
theorem w_X0_invoice_b18 (C0 : zCx p l e R s m args below meth c D B0 6 "FranchiseLedgerLaw" cX0_invoice E 12 199 (Option.some Jvm.ClassFile.FieldType.int) "invoice") (ht : c.exceptionTable.toList = tableOf [((0 : Nat), (11 : Nat), (14 : Nat), (22 : Nat)), ((0 : Nat), (11 : Nat), (18 : Nat), (13 : Nat))]) {r : Int32} {h' : zH} {s0 : Nat} {h : zH} (hf : f_X0_invoice_b18 E s0 h = some (r, h')) : zW p l e R s m args below meth c D B0 6 (zEnd D B0 R below args s (zoI r) h') h 18 [] [.ref s0] := by
  unfold f_X0_invoice_b18 at hf
  refine zr_astore (i := 5) (lv' := [(5, .ref s0)]) C0 dX0_invoice_18 (by decide) (by first | rfl | simp [zst1, zst2, zcat_rf]) ?_
  refine zr_iconst C0 (v := 2) dX0_invoice_20 (by decide) ?_
  refine zretW hf ?_
  exact zr_iret C0 (ty := .int) rfl rfl dX0_invoice_21 rfl
def f_X0_invoice_b0 (E : zE) (p0 : Nat) (p1 : Int32) (p2 : Int32) (p3 : Int32) (p4 : Nat) (h : zH) : Option (Int32 × zH) :=
  (cko h p0 0).bind fun _ =>
  bnd2 (f_X1_invoice E p0 p1 p2 p3 h) fun x4 h2 =>
  Sum.elim (fun x5 => (
    (sL h2 p4 (0 : Int32) x5).bind fun h7 =>
    some ((0 : Int32), h7)
  )) (fun q6 => (
    if q6.1 = 20 then (
      f_X0_invoice_b14 E q6.2 h2
    ) else (
    if q6.1 = 21 then (
      f_X0_invoice_b18 E q6.2 h2
    ) else (
    none
    ))
  )) x4
theorem w_X0_invoice_b0 (C0 : zCx p l e R s m args below meth c D B0 6 "FranchiseLedgerLaw" cX0_invoice E 12 199 (Option.some Jvm.ClassFile.FieldType.int) "invoice") (ht : c.exceptionTable.toList = tableOf [((0 : Nat), (11 : Nat), (14 : Nat), (22 : Nat)), ((0 : Nat), (11 : Nat), (18 : Nat), (13 : Nat))]) {r : Int32} {h' : zH} {p0 : Nat} {p1 : Int32} {p2 : Int32} {p3 : Int32} {p4 : Nat} {h : zH} (hf : f_X0_invoice_b0 E p0 p1 p2 p3 p4 h = some (r, h')) : zW p l e R s m args below meth c D B0 6 (zEnd D B0 R below args s (zoI r) h') h 0 [(0, .ref p0), (1, .int p1), (2, .int p2), (3, .int p3), (4, .ref p4)] [] := by
  unfold f_X0_invoice_b0 at hf
  refine zr_aload C0 dX0_invoice_0 4 rfl ?_
  refine zr_iconst C0 (v := 0) dX0_invoice_2 (by decide) ?_
  refine zr_aload_n C0 dX0_invoice_3 rfl 0 rfl ?_
  refine zr_iload_n C0 dX0_invoice_4 rfl 1 rfl ?_
  refine zr_iload_n C0 dX0_invoice_5 rfl 2 rfl ?_
  refine zr_iload_n C0 dX0_invoice_6 rfl 3 rfl ?_
  obtain ⟨_, e1, hf⟩ := zbind hf
  obtain ⟨x4, h2, e3, hf⟩ := zbind2 hf
  rcases x4 with x5 | q6
  · have hf := zinl hf
    refine zr_callV_r C0 cv_X0_100_X1 rfl (zcko e1) (m_X1_invoice C0.2.2.2.2.2.2.1 e3) (by decide) (by decide) rfl rfl (Nat.le_of_ble_eq_true rfl) dX0_invoice_7 rfl ?_
    obtain ⟨h7, e8, hf⟩ := zbind hf
    refine zr_last C0 dX0_invoice_10 e8 ?_
    refine zr_goto C0 (tgt := 22) dX0_invoice_11 (by decide) ?_
    refine zr_iconst C0 (v := 0) dX0_invoice_22 (by decide) ?_
    refine zretW hf ?_
    exact zr_iret C0 (ty := .int) rfl rfl dX0_invoice_23 rfl
  · have hf := zinr hf
    rcases Decidable.em (q6.1 = 20) with c9 | c9
    · obtain ⟨q1, q2⟩ := q6
      subst c9
      have hf := zif_t rfl hf
      refine zr_callV_t C0 cv_X0_100_X1 rfl (zcko e1) (m_X1_invoice C0.2.2.2.2.2.2.1 e3) (by decide) (by decide) rfl rfl (Nat.le_of_ble_eq_true rfl) dX0_invoice_7 (zr_catch C0 (tableOf []) ⟨0, 11, 14, 22⟩ (tableOf [(0, 11, 18, 13)]) (by rw [ht]; rfl) rfl (fun z hz => by cases hz) (by decide) (by decide) q2014 q787 ?_)
      refine zr_sub [] rfl ?_
      exact w_X0_invoice_b14 C0 ht hf
    have hf := zif_f c9 hf
    rcases Decidable.em (q6.1 = 21) with c10 | c10
    · obtain ⟨q1, q2⟩ := q6
      subst c10
      have hf := zif_t rfl hf
      refine zr_callV_t C0 cv_X0_100_X1 rfl (zcko e1) (m_X1_invoice C0.2.2.2.2.2.2.1 e3) (by decide) (by decide) rfl rfl (Nat.le_of_ble_eq_true rfl) dX0_invoice_7 (zr_catch C0 (tableOf [(0, 11, 14, 22)]) ⟨0, 11, 18, 13⟩ (tableOf []) (by rw [ht]; rfl) rfl (show ∀ z ∈ tableOf [(0, 11, 14, 22)], _ from (List.forall_mem_cons.mpr ⟨Or.inr ⟨by decide, "java/lang/IndexOutOfBoundsException", q2014, by decide +kernel⟩, (List.forall_mem_nil _)⟩)) (by decide) (by decide) q1743 q208 ?_)
      refine zr_sub [] rfl ?_
      exact w_X0_invoice_b18 C0 ht hf
    have hf := zif_f c10 hf
    cases hf
def f_X0_invoice (E : zE) (p0 : Nat) (p1 : Int32) (p2 : Int32) (p3 : Int32) (p4 : Nat) (h : zH) : Option (Int32 × zH) := f_X0_invoice_b0 E p0 p1 p2 p3 p4 h
theorem m_X0_invoice {l : Launch} (hst : l.stackTraces = false) {D : zD} {B0 : Nat} {E : zE} {p0 : Nat} {p1 : Int32} {p2 : Int32} {p3 : Int32} {p4 : Nat} {h h' : zH} {r : Int32} (hf : f_X0_invoice E p0 p1 p2 p3 p4 h = some (r, h')) : zMet l yX0_invoice (wsW_ yX0_invoice cX0_invoice 6 (Option.some Jvm.ClassFile.FieldType.int) [((0 : Nat), (11 : Nat), (14 : Nat), (22 : Nat)), ((0 : Nat), (11 : Nat), (18 : Nat), (13 : Nat))]) 12 199 D B0 E [.ref p0, .int p1, .int p2, .int p3, .ref p4] h (zoI r) h' := by
  unfold f_X0_invoice at hf
  refine zMet_ofH hst (by decide +kernel) rfl rfl (Nat.le_of_ble_eq_true rfl) (fun p e R s m below meth c C0 ht => ?_)
  show zW _ _ _ _ _ _ _ _ _ _ _ _ _ _ _ _ [(0, .ref p0), (1, .int p1), (2, .int p2), (3, .int p3), (4, .ref p4)] []
  exact w_X0_invoice_b0 C0 ht hf
def f_X0_predictDue_b12 (E : zE) (s0 : Nat) (h : zH) : Option (Int32 × zH) :=
  some ((1 : Int32), h)
theorem w_X0_predictDue_b12 (C0 : zCx p l e R s m args below meth c D B0 5 "FranchiseLedgerLaw" cX0_predictDue E 11 202 (Option.some Jvm.ClassFile.FieldType.int) "predictDue") (ht : c.exceptionTable.toList = tableOf [((0 : Nat), (9 : Nat), (12 : Nat), (22 : Nat)), ((0 : Nat), (9 : Nat), (16 : Nat), (13 : Nat))]) {r : Int32} {h' : zH} {s0 : Nat} {h : zH} (hf : f_X0_predictDue_b12 E s0 h = some (r, h')) : zW p l e R s m args below meth c D B0 5 (zEnd D B0 R below args s (zoI r) h') h 12 [] [.ref s0] := by
  unfold f_X0_predictDue_b12 at hf
  refine zr_astore (i := 4) (lv' := [(4, .ref s0)]) C0 dX0_predictDue_12 (by decide) (by first | rfl | simp [zst1, zst2, zcat_rf]) ?_
  refine zr_iconst C0 (v := 1) dX0_predictDue_14 (by decide) ?_
  refine zretW hf ?_
  exact zr_iret C0 (ty := .int) rfl rfl dX0_predictDue_15 rfl
def f_X0_predictDue_b16 (E : zE) (s0 : Nat) (h : zH) : Option (Int32 × zH) :=
  some ((2 : Int32), h)
theorem w_X0_predictDue_b16 (C0 : zCx p l e R s m args below meth c D B0 5 "FranchiseLedgerLaw" cX0_predictDue E 11 202 (Option.some Jvm.ClassFile.FieldType.int) "predictDue") (ht : c.exceptionTable.toList = tableOf [((0 : Nat), (9 : Nat), (12 : Nat), (22 : Nat)), ((0 : Nat), (9 : Nat), (16 : Nat), (13 : Nat))]) {r : Int32} {h' : zH} {s0 : Nat} {h : zH} (hf : f_X0_predictDue_b16 E s0 h = some (r, h')) : zW p l e R s m args below meth c D B0 5 (zEnd D B0 R below args s (zoI r) h') h 16 [] [.ref s0] := by
  unfold f_X0_predictDue_b16 at hf
  refine zr_astore (i := 4) (lv' := [(4, .ref s0)]) C0 dX0_predictDue_16 (by decide) (by first | rfl | simp [zst1, zst2, zcat_rf]) ?_
  refine zr_iconst C0 (v := 2) dX0_predictDue_18 (by decide) ?_
  refine zretW hf ?_
  exact zr_iret C0 (ty := .int) rfl rfl dX0_predictDue_19 rfl
def f_X0_predictDue_b0 (E : zE) (p0 : Nat) (p1 : Int32) (p2 : Int32) (p3 : Nat) (h : zH) : Option (Int32 × zH) :=
  (cko h p0 0).bind fun _ =>
  bnd2 (f_X1_predictDue E p0 p1 p2 h) fun x4 h2 =>
  Sum.elim (fun x5 => (
    (sL h2 p3 (0 : Int32) x5).bind fun h7 =>
    some ((0 : Int32), h7)
  )) (fun q6 => (
    if q6.1 = 20 then (
      f_X0_predictDue_b12 E q6.2 h2
    ) else (
    if q6.1 = 21 then (
      f_X0_predictDue_b16 E q6.2 h2
    ) else (
    none
    ))
  )) x4
theorem w_X0_predictDue_b0 (C0 : zCx p l e R s m args below meth c D B0 5 "FranchiseLedgerLaw" cX0_predictDue E 11 202 (Option.some Jvm.ClassFile.FieldType.int) "predictDue") (ht : c.exceptionTable.toList = tableOf [((0 : Nat), (9 : Nat), (12 : Nat), (22 : Nat)), ((0 : Nat), (9 : Nat), (16 : Nat), (13 : Nat))]) {r : Int32} {h' : zH} {p0 : Nat} {p1 : Int32} {p2 : Int32} {p3 : Nat} {h : zH} (hf : f_X0_predictDue_b0 E p0 p1 p2 p3 h = some (r, h')) : zW p l e R s m args below meth c D B0 5 (zEnd D B0 R below args s (zoI r) h') h 0 [(0, .ref p0), (1, .int p1), (2, .int p2), (3, .ref p3)] [] := by
  unfold f_X0_predictDue_b0 at hf
  refine zr_aload_n C0 dX0_predictDue_0 rfl 3 rfl ?_
  refine zr_iconst C0 (v := 0) dX0_predictDue_1 (by decide) ?_
  refine zr_aload_n C0 dX0_predictDue_2 rfl 0 rfl ?_
  refine zr_iload_n C0 dX0_predictDue_3 rfl 1 rfl ?_
  refine zr_iload_n C0 dX0_predictDue_4 rfl 2 rfl ?_
  obtain ⟨_, e1, hf⟩ := zbind hf
  obtain ⟨x4, h2, e3, hf⟩ := zbind2 hf
  rcases x4 with x5 | q6
  · have hf := zinl hf
    refine zr_callV_r C0 cv_X0_104_X1 rfl (zcko e1) (m_X1_predictDue C0.2.2.2.2.2.2.1 e3) (by decide) (by decide) rfl rfl (Nat.le_of_ble_eq_true rfl) dX0_predictDue_5 rfl ?_
    obtain ⟨h7, e8, hf⟩ := zbind hf
    refine zr_last C0 dX0_predictDue_8 e8 ?_
    refine zr_goto C0 (tgt := 20) dX0_predictDue_9 (by decide) ?_
    refine zr_iconst C0 (v := 0) dX0_predictDue_20 (by decide) ?_
    refine zretW hf ?_
    exact zr_iret C0 (ty := .int) rfl rfl dX0_predictDue_21 rfl
  · have hf := zinr hf
    rcases Decidable.em (q6.1 = 20) with c9 | c9
    · obtain ⟨q1, q2⟩ := q6
      subst c9
      have hf := zif_t rfl hf
      refine zr_callV_t C0 cv_X0_104_X1 rfl (zcko e1) (m_X1_predictDue C0.2.2.2.2.2.2.1 e3) (by decide) (by decide) rfl rfl (Nat.le_of_ble_eq_true rfl) dX0_predictDue_5 (zr_catch C0 (tableOf []) ⟨0, 9, 12, 22⟩ (tableOf [(0, 9, 16, 13)]) (by rw [ht]; rfl) rfl (fun z hz => by cases hz) (by decide) (by decide) q2014 q787 ?_)
      refine zr_sub [] rfl ?_
      exact w_X0_predictDue_b12 C0 ht hf
    have hf := zif_f c9 hf
    rcases Decidable.em (q6.1 = 21) with c10 | c10
    · obtain ⟨q1, q2⟩ := q6
      subst c10
      have hf := zif_t rfl hf
      refine zr_callV_t C0 cv_X0_104_X1 rfl (zcko e1) (m_X1_predictDue C0.2.2.2.2.2.2.1 e3) (by decide) (by decide) rfl rfl (Nat.le_of_ble_eq_true rfl) dX0_predictDue_5 (zr_catch C0 (tableOf [(0, 9, 12, 22)]) ⟨0, 9, 16, 13⟩ (tableOf []) (by rw [ht]; rfl) rfl (show ∀ z ∈ tableOf [(0, 9, 12, 22)], _ from (List.forall_mem_cons.mpr ⟨Or.inr ⟨by decide, "java/lang/IndexOutOfBoundsException", q2014, by decide +kernel⟩, (List.forall_mem_nil _)⟩)) (by decide) (by decide) q1743 q208 ?_)
      refine zr_sub [] rfl ?_
      exact w_X0_predictDue_b16 C0 ht hf
    have hf := zif_f c10 hf
    cases hf
def f_X0_predictDue (E : zE) (p0 : Nat) (p1 : Int32) (p2 : Int32) (p3 : Nat) (h : zH) : Option (Int32 × zH) := f_X0_predictDue_b0 E p0 p1 p2 p3 h
theorem m_X0_predictDue {l : Launch} (hst : l.stackTraces = false) {D : zD} {B0 : Nat} {E : zE} {p0 : Nat} {p1 : Int32} {p2 : Int32} {p3 : Nat} {h h' : zH} {r : Int32} (hf : f_X0_predictDue E p0 p1 p2 p3 h = some (r, h')) : zMet l yX0_predictDue (wsW_ yX0_predictDue cX0_predictDue 5 (Option.some Jvm.ClassFile.FieldType.int) [((0 : Nat), (9 : Nat), (12 : Nat), (22 : Nat)), ((0 : Nat), (9 : Nat), (16 : Nat), (13 : Nat))]) 11 202 D B0 E [.ref p0, .int p1, .int p2, .ref p3] h (zoI r) h' := by
  unfold f_X0_predictDue at hf
  refine zMet_ofH hst (by decide +kernel) rfl rfl (Nat.le_of_ble_eq_true rfl) (fun p e R s m below meth c C0 ht => ?_)
  show zW _ _ _ _ _ _ _ _ _ _ _ _ _ _ _ _ [(0, .ref p0), (1, .int p1), (2, .int p2), (3, .ref p3)] []
  exact w_X0_predictDue_b0 C0 ht hf
def f_X0_balance_b11 (E : zE) (s0 : Nat) (h : zH) : Option (Int32 × zH) :=
  some ((1 : Int32), h)
theorem w_X0_balance_b11 (C0 : zCx p l e R s m args below meth c D B0 4 "FranchiseLedgerLaw" cX0_balance E 12 196 (Option.some Jvm.ClassFile.FieldType.int) "balance") (ht : c.exceptionTable.toList = tableOf [((0 : Nat), (8 : Nat), (11 : Nat), (22 : Nat))]) {r : Int32} {h' : zH} {s0 : Nat} {h : zH} (hf : f_X0_balance_b11 E s0 h = some (r, h')) : zW p l e R s m args below meth c D B0 4 (zEnd D B0 R below args s (zoI r) h') h 11 [] [.ref s0] := by
  unfold f_X0_balance_b11 at hf
  refine zr_astore_n (i := 3) (lv' := [(3, .ref s0)]) C0 dX0_balance_11 rfl (by decide) (by first | rfl | simp [zst1, zst2, zcat_rf]) ?_
  refine zr_iconst C0 (v := 1) dX0_balance_12 (by decide) ?_
  refine zretW hf ?_
  exact zr_iret C0 (ty := .int) rfl rfl dX0_balance_13 rfl
def f_X0_balance_b0 (E : zE) (p0 : Nat) (p1 : Int32) (p2 : Nat) (h : zH) : Option (Int32 × zH) :=
  (cko h p0 0).bind fun _ =>
  bnd2 (f_X1_balance E p0 p1 h) fun x4 h2 =>
  Sum.elim (fun x5 => (
    (sL h2 p2 (0 : Int32) x5).bind fun h7 =>
    some ((0 : Int32), h7)
  )) (fun q6 => (
    if q6.1 = 20 then (
      f_X0_balance_b11 E q6.2 h2
    ) else (
    none
    )
  )) x4
theorem w_X0_balance_b0 (C0 : zCx p l e R s m args below meth c D B0 4 "FranchiseLedgerLaw" cX0_balance E 12 196 (Option.some Jvm.ClassFile.FieldType.int) "balance") (ht : c.exceptionTable.toList = tableOf [((0 : Nat), (8 : Nat), (11 : Nat), (22 : Nat))]) {r : Int32} {h' : zH} {p0 : Nat} {p1 : Int32} {p2 : Nat} {h : zH} (hf : f_X0_balance_b0 E p0 p1 p2 h = some (r, h')) : zW p l e R s m args below meth c D B0 4 (zEnd D B0 R below args s (zoI r) h') h 0 [(0, .ref p0), (1, .int p1), (2, .ref p2)] [] := by
  unfold f_X0_balance_b0 at hf
  refine zr_aload_n C0 dX0_balance_0 rfl 2 rfl ?_
  refine zr_iconst C0 (v := 0) dX0_balance_1 (by decide) ?_
  refine zr_aload_n C0 dX0_balance_2 rfl 0 rfl ?_
  refine zr_iload_n C0 dX0_balance_3 rfl 1 rfl ?_
  obtain ⟨_, e1, hf⟩ := zbind hf
  obtain ⟨x4, h2, e3, hf⟩ := zbind2 hf
  rcases x4 with x5 | q6
  · have hf := zinl hf
    refine zr_callV_r C0 cv_X0_107_X1 rfl (zcko e1) (m_X1_balance C0.2.2.2.2.2.2.1 e3) (by decide) (by decide) rfl rfl (Nat.le_of_ble_eq_true rfl) dX0_balance_4 rfl ?_
    obtain ⟨h7, e8, hf⟩ := zbind hf
    refine zr_last C0 dX0_balance_7 e8 ?_
    refine zr_goto C0 (tgt := 14) dX0_balance_8 (by decide) ?_
    refine zr_iconst C0 (v := 0) dX0_balance_14 (by decide) ?_
    refine zretW hf ?_
    exact zr_iret C0 (ty := .int) rfl rfl dX0_balance_15 rfl
  · have hf := zinr hf
    rcases Decidable.em (q6.1 = 20) with c9 | c9
    · obtain ⟨q1, q2⟩ := q6
      subst c9
      have hf := zif_t rfl hf
      refine zr_callV_t C0 cv_X0_107_X1 rfl (zcko e1) (m_X1_balance C0.2.2.2.2.2.2.1 e3) (by decide) (by decide) rfl rfl (Nat.le_of_ble_eq_true rfl) dX0_balance_4 (zr_catch C0 (tableOf []) ⟨0, 8, 11, 22⟩ (tableOf []) (by rw [ht]; rfl) rfl (fun z hz => by cases hz) (by decide) (by decide) q2014 q787 ?_)
      refine zr_sub [] rfl ?_
      exact w_X0_balance_b11 C0 ht hf
    have hf := zif_f c9 hf
    cases hf
def f_X0_balance (E : zE) (p0 : Nat) (p1 : Int32) (p2 : Nat) (h : zH) : Option (Int32 × zH) := f_X0_balance_b0 E p0 p1 p2 h
theorem m_X0_balance {l : Launch} (hst : l.stackTraces = false) {D : zD} {B0 : Nat} {E : zE} {p0 : Nat} {p1 : Int32} {p2 : Nat} {h h' : zH} {r : Int32} (hf : f_X0_balance E p0 p1 p2 h = some (r, h')) : zMet l yX0_balance (wsW_ yX0_balance cX0_balance 4 (Option.some Jvm.ClassFile.FieldType.int) [((0 : Nat), (8 : Nat), (11 : Nat), (22 : Nat))]) 12 196 D B0 E [.ref p0, .int p1, .ref p2] h (zoI r) h' := by
  unfold f_X0_balance at hf
  refine zMet_ofH hst (by decide +kernel) rfl rfl (Nat.le_of_ble_eq_true rfl) (fun p e R s m below meth c C0 ht => ?_)
  show zW _ _ _ _ _ _ _ _ _ _ _ _ _ _ _ _ [(0, .ref p0), (1, .int p1), (2, .ref p2)] []
  exact w_X0_balance_b0 C0 ht hf
def f_X0_pay_b13 (E : zE) (s0 : Nat) (h : zH) : Option (Int32 × zH) :=
  some ((1 : Int32), h)
theorem w_X0_pay_b13 (C0 : zCx p l e R s m args below meth c D B0 6 "FranchiseLedgerLaw" cX0_pay E 12 199 (Option.some Jvm.ClassFile.FieldType.int) "pay") (ht : c.exceptionTable.toList = tableOf [((0 : Nat), (10 : Nat), (13 : Nat), (22 : Nat)), ((0 : Nat), (10 : Nat), (17 : Nat), (13 : Nat))]) {r : Int32} {h' : zH} {s0 : Nat} {h : zH} (hf : f_X0_pay_b13 E s0 h = some (r, h')) : zW p l e R s m args below meth c D B0 6 (zEnd D B0 R below args s (zoI r) h') h 13 [] [.ref s0] := by
  unfold f_X0_pay_b13 at hf
  refine zr_astore (i := 5) (lv' := [(5, .ref s0)]) C0 dX0_pay_13 (by decide) (by first | rfl | simp [zst1, zst2, zcat_rf]) ?_
  refine zr_iconst C0 (v := 1) dX0_pay_15 (by decide) ?_
  refine zretW hf ?_
  exact zr_iret C0 (ty := .int) rfl rfl dX0_pay_16 rfl
def f_X0_pay_b17 (E : zE) (s0 : Nat) (h : zH) : Option (Int32 × zH) :=
  some ((2 : Int32), h)
theorem w_X0_pay_b17 (C0 : zCx p l e R s m args below meth c D B0 6 "FranchiseLedgerLaw" cX0_pay E 12 199 (Option.some Jvm.ClassFile.FieldType.int) "pay") (ht : c.exceptionTable.toList = tableOf [((0 : Nat), (10 : Nat), (13 : Nat), (22 : Nat)), ((0 : Nat), (10 : Nat), (17 : Nat), (13 : Nat))]) {r : Int32} {h' : zH} {s0 : Nat} {h : zH} (hf : f_X0_pay_b17 E s0 h = some (r, h')) : zW p l e R s m args below meth c D B0 6 (zEnd D B0 R below args s (zoI r) h') h 17 [] [.ref s0] := by
  unfold f_X0_pay_b17 at hf
  refine zr_astore (i := 5) (lv' := [(5, .ref s0)]) C0 dX0_pay_17 (by decide) (by first | rfl | simp [zst1, zst2, zcat_rf]) ?_
  refine zr_iconst C0 (v := 2) dX0_pay_19 (by decide) ?_
  refine zretW hf ?_
  exact zr_iret C0 (ty := .int) rfl rfl dX0_pay_20 rfl
def f_X0_pay_b0 (E : zE) (p0 : Nat) (p1 : Int32) (p2 : Int64) (p4 : Nat) (h : zH) : Option (Int32 × zH) :=
  (cko h p0 0).bind fun _ =>
  bnd2 (f_X1_pay E p0 p1 p2 h) fun x4 h2 =>
  Sum.elim (fun x5 => (
    (sL h2 p4 (0 : Int32) x5).bind fun h7 =>
    some ((0 : Int32), h7)
  )) (fun q6 => (
    if q6.1 = 20 then (
      f_X0_pay_b13 E q6.2 h2
    ) else (
    if q6.1 = 21 then (
      f_X0_pay_b17 E q6.2 h2
    ) else (
    none
    ))
  )) x4
theorem w_X0_pay_b0 (C0 : zCx p l e R s m args below meth c D B0 6 "FranchiseLedgerLaw" cX0_pay E 12 199 (Option.some Jvm.ClassFile.FieldType.int) "pay") (ht : c.exceptionTable.toList = tableOf [((0 : Nat), (10 : Nat), (13 : Nat), (22 : Nat)), ((0 : Nat), (10 : Nat), (17 : Nat), (13 : Nat))]) {r : Int32} {h' : zH} {p0 : Nat} {p1 : Int32} {p2 : Int64} {p4 : Nat} {h : zH} (hf : f_X0_pay_b0 E p0 p1 p2 p4 h = some (r, h')) : zW p l e R s m args below meth c D B0 6 (zEnd D B0 R below args s (zoI r) h') h 0 [(0, .ref p0), (1, .int p1), (2, .long p2), (4, .ref p4)] [] := by
  unfold f_X0_pay_b0 at hf
  refine zr_aload C0 dX0_pay_0 3 rfl ?_
  refine zr_iconst C0 (v := 0) dX0_pay_2 (by decide) ?_
  refine zr_aload_n C0 dX0_pay_3 rfl 0 rfl ?_
  refine zr_iload_n C0 dX0_pay_4 rfl 1 rfl ?_
  refine zr_lload_n C0 dX0_pay_5 rfl 2 rfl ?_
  obtain ⟨_, e1, hf⟩ := zbind hf
  obtain ⟨x4, h2, e3, hf⟩ := zbind2 hf
  rcases x4 with x5 | q6
  · have hf := zinl hf
    refine zr_callV_r C0 cv_X0_110_X1 rfl (zcko e1) (m_X1_pay C0.2.2.2.2.2.2.1 e3) (by decide) (by decide) rfl rfl (Nat.le_of_ble_eq_true rfl) dX0_pay_6 rfl ?_
    obtain ⟨h7, e8, hf⟩ := zbind hf
    refine zr_last C0 dX0_pay_9 e8 ?_
    refine zr_goto C0 (tgt := 21) dX0_pay_10 (by decide) ?_
    refine zr_iconst C0 (v := 0) dX0_pay_21 (by decide) ?_
    refine zretW hf ?_
    exact zr_iret C0 (ty := .int) rfl rfl dX0_pay_22 rfl
  · have hf := zinr hf
    rcases Decidable.em (q6.1 = 20) with c9 | c9
    · obtain ⟨q1, q2⟩ := q6
      subst c9
      have hf := zif_t rfl hf
      refine zr_callV_t C0 cv_X0_110_X1 rfl (zcko e1) (m_X1_pay C0.2.2.2.2.2.2.1 e3) (by decide) (by decide) rfl rfl (Nat.le_of_ble_eq_true rfl) dX0_pay_6 (zr_catch C0 (tableOf []) ⟨0, 10, 13, 22⟩ (tableOf [(0, 10, 17, 13)]) (by rw [ht]; rfl) rfl (fun z hz => by cases hz) (by decide) (by decide) q2014 q787 ?_)
      refine zr_sub [] rfl ?_
      exact w_X0_pay_b13 C0 ht hf
    have hf := zif_f c9 hf
    rcases Decidable.em (q6.1 = 21) with c10 | c10
    · obtain ⟨q1, q2⟩ := q6
      subst c10
      have hf := zif_t rfl hf
      refine zr_callV_t C0 cv_X0_110_X1 rfl (zcko e1) (m_X1_pay C0.2.2.2.2.2.2.1 e3) (by decide) (by decide) rfl rfl (Nat.le_of_ble_eq_true rfl) dX0_pay_6 (zr_catch C0 (tableOf [(0, 10, 13, 22)]) ⟨0, 10, 17, 13⟩ (tableOf []) (by rw [ht]; rfl) rfl (show ∀ z ∈ tableOf [(0, 10, 13, 22)], _ from (List.forall_mem_cons.mpr ⟨Or.inr ⟨by decide, "java/lang/IndexOutOfBoundsException", q2014, by decide +kernel⟩, (List.forall_mem_nil _)⟩)) (by decide) (by decide) q1743 q208 ?_)
      refine zr_sub [] rfl ?_
      exact w_X0_pay_b17 C0 ht hf
    have hf := zif_f c10 hf
    cases hf
def f_X0_pay (E : zE) (p0 : Nat) (p1 : Int32) (p2 : Int64) (p4 : Nat) (h : zH) : Option (Int32 × zH) := f_X0_pay_b0 E p0 p1 p2 p4 h
theorem m_X0_pay {l : Launch} (hst : l.stackTraces = false) {D : zD} {B0 : Nat} {E : zE} {p0 : Nat} {p1 : Int32} {p2 : Int64} {p4 : Nat} {h h' : zH} {r : Int32} (hf : f_X0_pay E p0 p1 p2 p4 h = some (r, h')) : zMet l yX0_pay (wsW_ yX0_pay cX0_pay 6 (Option.some Jvm.ClassFile.FieldType.int) [((0 : Nat), (10 : Nat), (13 : Nat), (22 : Nat)), ((0 : Nat), (10 : Nat), (17 : Nat), (13 : Nat))]) 12 199 D B0 E [.ref p0, .int p1, .long p2, .ref p4] h (zoI r) h' := by
  unfold f_X0_pay at hf
  refine zMet_ofH hst (by decide +kernel) rfl rfl (Nat.le_of_ble_eq_true rfl) (fun p e R s m below meth c C0 ht => ?_)
  show zW _ _ _ _ _ _ _ _ _ _ _ _ _ _ _ _ [(0, .ref p0), (1, .int p1), (2, .long p2), (4, .ref p4)] []
  exact w_X0_pay_b0 C0 ht hf
def f_X0_monthsOverdue_b12 (E : zE) (s0 : Nat) (h : zH) : Option (Int32 × zH) :=
  some ((1 : Int32), h)
theorem w_X0_monthsOverdue_b12 (C0 : zCx p l e R s m args below meth c D B0 4 "FranchiseLedgerLaw" cX0_monthsOverdue E 12 196 (Option.some Jvm.ClassFile.FieldType.int) "monthsOverdue") (ht : c.exceptionTable.toList = tableOf [((0 : Nat), (9 : Nat), (12 : Nat), (22 : Nat))]) {r : Int32} {h' : zH} {s0 : Nat} {h : zH} (hf : f_X0_monthsOverdue_b12 E s0 h = some (r, h')) : zW p l e R s m args below meth c D B0 4 (zEnd D B0 R below args s (zoI r) h') h 12 [] [.ref s0] := by
  unfold f_X0_monthsOverdue_b12 at hf
  refine zr_astore_n (i := 3) (lv' := [(3, .ref s0)]) C0 dX0_monthsOverdue_12 rfl (by decide) (by first | rfl | simp [zst1, zst2, zcat_rf]) ?_
  refine zr_iconst C0 (v := 1) dX0_monthsOverdue_13 (by decide) ?_
  refine zretW hf ?_
  exact zr_iret C0 (ty := .int) rfl rfl dX0_monthsOverdue_14 rfl
def f_X0_monthsOverdue_b0 (E : zE) (p0 : Nat) (p1 : Int32) (p2 : Nat) (h : zH) : Option (Int32 × zH) :=
  (cko h p0 0).bind fun _ =>
  bnd2 (f_X1_monthsOverdue E p0 p1 h) fun x4 h2 =>
  Sum.elim (fun x5 => (
    (sL h2 p2 (0 : Int32) (x5.toInt64)).bind fun h7 =>
    some ((0 : Int32), h7)
  )) (fun q6 => (
    if q6.1 = 20 then (
      f_X0_monthsOverdue_b12 E q6.2 h2
    ) else (
    none
    )
  )) x4
theorem w_X0_monthsOverdue_b0 (C0 : zCx p l e R s m args below meth c D B0 4 "FranchiseLedgerLaw" cX0_monthsOverdue E 12 196 (Option.some Jvm.ClassFile.FieldType.int) "monthsOverdue") (ht : c.exceptionTable.toList = tableOf [((0 : Nat), (9 : Nat), (12 : Nat), (22 : Nat))]) {r : Int32} {h' : zH} {p0 : Nat} {p1 : Int32} {p2 : Nat} {h : zH} (hf : f_X0_monthsOverdue_b0 E p0 p1 p2 h = some (r, h')) : zW p l e R s m args below meth c D B0 4 (zEnd D B0 R below args s (zoI r) h') h 0 [(0, .ref p0), (1, .int p1), (2, .ref p2)] [] := by
  unfold f_X0_monthsOverdue_b0 at hf
  refine zr_aload_n C0 dX0_monthsOverdue_0 rfl 2 rfl ?_
  refine zr_iconst C0 (v := 0) dX0_monthsOverdue_1 (by decide) ?_
  refine zr_aload_n C0 dX0_monthsOverdue_2 rfl 0 rfl ?_
  refine zr_iload_n C0 dX0_monthsOverdue_3 rfl 1 rfl ?_
  obtain ⟨_, e1, hf⟩ := zbind hf
  obtain ⟨x4, h2, e3, hf⟩ := zbind2 hf
  rcases x4 with x5 | q6
  · have hf := zinl hf
    refine zr_callV_r C0 cv_X0_113_X1 rfl (zcko e1) (m_X1_monthsOverdue C0.2.2.2.2.2.2.1 e3) (by decide) (by decide) rfl rfl (Nat.le_of_ble_eq_true rfl) dX0_monthsOverdue_4 rfl ?_
    refine zr_i2l C0 dX0_monthsOverdue_7 ?_
    obtain ⟨h7, e8, hf⟩ := zbind hf
    refine zr_last C0 dX0_monthsOverdue_8 e8 ?_
    refine zr_goto C0 (tgt := 15) dX0_monthsOverdue_9 (by decide) ?_
    refine zr_iconst C0 (v := 0) dX0_monthsOverdue_15 (by decide) ?_
    refine zretW hf ?_
    exact zr_iret C0 (ty := .int) rfl rfl dX0_monthsOverdue_16 rfl
  · have hf := zinr hf
    rcases Decidable.em (q6.1 = 20) with c9 | c9
    · obtain ⟨q1, q2⟩ := q6
      subst c9
      have hf := zif_t rfl hf
      refine zr_callV_t C0 cv_X0_113_X1 rfl (zcko e1) (m_X1_monthsOverdue C0.2.2.2.2.2.2.1 e3) (by decide) (by decide) rfl rfl (Nat.le_of_ble_eq_true rfl) dX0_monthsOverdue_4 (zr_catch C0 (tableOf []) ⟨0, 9, 12, 22⟩ (tableOf []) (by rw [ht]; rfl) rfl (fun z hz => by cases hz) (by decide) (by decide) q2014 q787 ?_)
      refine zr_sub [] rfl ?_
      exact w_X0_monthsOverdue_b12 C0 ht hf
    have hf := zif_f c9 hf
    cases hf
def f_X0_monthsOverdue (E : zE) (p0 : Nat) (p1 : Int32) (p2 : Nat) (h : zH) : Option (Int32 × zH) := f_X0_monthsOverdue_b0 E p0 p1 p2 h
theorem m_X0_monthsOverdue {l : Launch} (hst : l.stackTraces = false) {D : zD} {B0 : Nat} {E : zE} {p0 : Nat} {p1 : Int32} {p2 : Nat} {h h' : zH} {r : Int32} (hf : f_X0_monthsOverdue E p0 p1 p2 h = some (r, h')) : zMet l yX0_monthsOverdue (wsW_ yX0_monthsOverdue cX0_monthsOverdue 4 (Option.some Jvm.ClassFile.FieldType.int) [((0 : Nat), (9 : Nat), (12 : Nat), (22 : Nat))]) 12 196 D B0 E [.ref p0, .int p1, .ref p2] h (zoI r) h' := by
  unfold f_X0_monthsOverdue at hf
  refine zMet_ofH hst (by decide +kernel) rfl rfl (Nat.le_of_ble_eq_true rfl) (fun p e R s m below meth c C0 ht => ?_)
  show zW _ _ _ _ _ _ _ _ _ _ _ _ _ _ _ _ [(0, .ref p0), (1, .int p1), (2, .ref p2)] []
  exact w_X0_monthsOverdue_b0 C0 ht hf
def f_X0_payOff_b14 (E : zE) (s0 : Nat) (h : zH) : Option (Int32 × zH) :=
  some ((1 : Int32), h)
theorem w_X0_payOff_b14 (C0 : zCx p l e R s m args below meth c D B0 6 "FranchiseLedgerLaw" cX0_payOff E 12 201 (Option.some Jvm.ClassFile.FieldType.int) "payOff") (ht : c.exceptionTable.toList = tableOf [((0 : Nat), (11 : Nat), (14 : Nat), (22 : Nat)), ((0 : Nat), (11 : Nat), (18 : Nat), (13 : Nat))]) {r : Int32} {h' : zH} {s0 : Nat} {h : zH} (hf : f_X0_payOff_b14 E s0 h = some (r, h')) : zW p l e R s m args below meth c D B0 6 (zEnd D B0 R below args s (zoI r) h') h 14 [] [.ref s0] := by
  unfold f_X0_payOff_b14 at hf
  refine zr_astore (i := 5) (lv' := [(5, .ref s0)]) C0 dX0_payOff_14 (by decide) (by first | rfl | simp [zst1, zst2, zcat_rf]) ?_
  refine zr_iconst C0 (v := 1) dX0_payOff_16 (by decide) ?_
  refine zretW hf ?_
  exact zr_iret C0 (ty := .int) rfl rfl dX0_payOff_17 rfl
def f_X0_payOff_b18 (E : zE) (s0 : Nat) (h : zH) : Option (Int32 × zH) :=
  some ((2 : Int32), h)
theorem w_X0_payOff_b18 (C0 : zCx p l e R s m args below meth c D B0 6 "FranchiseLedgerLaw" cX0_payOff E 12 201 (Option.some Jvm.ClassFile.FieldType.int) "payOff") (ht : c.exceptionTable.toList = tableOf [((0 : Nat), (11 : Nat), (14 : Nat), (22 : Nat)), ((0 : Nat), (11 : Nat), (18 : Nat), (13 : Nat))]) {r : Int32} {h' : zH} {s0 : Nat} {h : zH} (hf : f_X0_payOff_b18 E s0 h = some (r, h')) : zW p l e R s m args below meth c D B0 6 (zEnd D B0 R below args s (zoI r) h') h 18 [] [.ref s0] := by
  unfold f_X0_payOff_b18 at hf
  refine zr_astore (i := 5) (lv' := [(5, .ref s0)]) C0 dX0_payOff_18 (by decide) (by first | rfl | simp [zst1, zst2, zcat_rf]) ?_
  refine zr_iconst C0 (v := 2) dX0_payOff_20 (by decide) ?_
  refine zretW hf ?_
  exact zr_iret C0 (ty := .int) rfl rfl dX0_payOff_21 rfl
def f_X0_payOff_b0 (E : zE) (p0 : Nat) (p1 : Int32) (p2 : Int64) (p4 : Nat) (h : zH) : Option (Int32 × zH) :=
  (cko h p0 0).bind fun _ =>
  bnd2 (f_X1_payOff E p0 p1 p2 h) fun x4 h2 =>
  Sum.elim (fun x5 => (
    (sL h2 p4 (0 : Int32) (x5.toInt64)).bind fun h7 =>
    some ((0 : Int32), h7)
  )) (fun q6 => (
    if q6.1 = 20 then (
      f_X0_payOff_b14 E q6.2 h2
    ) else (
    if q6.1 = 21 then (
      f_X0_payOff_b18 E q6.2 h2
    ) else (
    none
    ))
  )) x4
theorem w_X0_payOff_b0 (C0 : zCx p l e R s m args below meth c D B0 6 "FranchiseLedgerLaw" cX0_payOff E 12 201 (Option.some Jvm.ClassFile.FieldType.int) "payOff") (ht : c.exceptionTable.toList = tableOf [((0 : Nat), (11 : Nat), (14 : Nat), (22 : Nat)), ((0 : Nat), (11 : Nat), (18 : Nat), (13 : Nat))]) {r : Int32} {h' : zH} {p0 : Nat} {p1 : Int32} {p2 : Int64} {p4 : Nat} {h : zH} (hf : f_X0_payOff_b0 E p0 p1 p2 p4 h = some (r, h')) : zW p l e R s m args below meth c D B0 6 (zEnd D B0 R below args s (zoI r) h') h 0 [(0, .ref p0), (1, .int p1), (2, .long p2), (4, .ref p4)] [] := by
  unfold f_X0_payOff_b0 at hf
  refine zr_aload C0 dX0_payOff_0 3 rfl ?_
  refine zr_iconst C0 (v := 0) dX0_payOff_2 (by decide) ?_
  refine zr_aload_n C0 dX0_payOff_3 rfl 0 rfl ?_
  refine zr_iload_n C0 dX0_payOff_4 rfl 1 rfl ?_
  refine zr_lload_n C0 dX0_payOff_5 rfl 2 rfl ?_
  obtain ⟨_, e1, hf⟩ := zbind hf
  obtain ⟨x4, h2, e3, hf⟩ := zbind2 hf
  rcases x4 with x5 | q6
  · have hf := zinl hf
    refine zr_callV_r C0 cv_X0_116_X1 rfl (zcko e1) (m_X1_payOff C0.2.2.2.2.2.2.1 e3) (by decide) (by decide) rfl rfl (Nat.le_of_ble_eq_true rfl) dX0_payOff_6 rfl ?_
    refine zr_i2l C0 dX0_payOff_9 ?_
    obtain ⟨h7, e8, hf⟩ := zbind hf
    refine zr_last C0 dX0_payOff_10 e8 ?_
    refine zr_goto C0 (tgt := 22) dX0_payOff_11 (by decide) ?_
    refine zr_iconst C0 (v := 0) dX0_payOff_22 (by decide) ?_
    refine zretW hf ?_
    exact zr_iret C0 (ty := .int) rfl rfl dX0_payOff_23 rfl
  · have hf := zinr hf
    rcases Decidable.em (q6.1 = 20) with c9 | c9
    · obtain ⟨q1, q2⟩ := q6
      subst c9
      have hf := zif_t rfl hf
      refine zr_callV_t C0 cv_X0_116_X1 rfl (zcko e1) (m_X1_payOff C0.2.2.2.2.2.2.1 e3) (by decide) (by decide) rfl rfl (Nat.le_of_ble_eq_true rfl) dX0_payOff_6 (zr_catch C0 (tableOf []) ⟨0, 11, 14, 22⟩ (tableOf [(0, 11, 18, 13)]) (by rw [ht]; rfl) rfl (fun z hz => by cases hz) (by decide) (by decide) q2014 q787 ?_)
      refine zr_sub [] rfl ?_
      exact w_X0_payOff_b14 C0 ht hf
    have hf := zif_f c9 hf
    rcases Decidable.em (q6.1 = 21) with c10 | c10
    · obtain ⟨q1, q2⟩ := q6
      subst c10
      have hf := zif_t rfl hf
      refine zr_callV_t C0 cv_X0_116_X1 rfl (zcko e1) (m_X1_payOff C0.2.2.2.2.2.2.1 e3) (by decide) (by decide) rfl rfl (Nat.le_of_ble_eq_true rfl) dX0_payOff_6 (zr_catch C0 (tableOf [(0, 11, 14, 22)]) ⟨0, 11, 18, 13⟩ (tableOf []) (by rw [ht]; rfl) rfl (show ∀ z ∈ tableOf [(0, 11, 14, 22)], _ from (List.forall_mem_cons.mpr ⟨Or.inr ⟨by decide, "java/lang/IndexOutOfBoundsException", q2014, by decide +kernel⟩, (List.forall_mem_nil _)⟩)) (by decide) (by decide) q1743 q208 ?_)
      refine zr_sub [] rfl ?_
      exact w_X0_payOff_b18 C0 ht hf
    have hf := zif_f c10 hf
    cases hf
def f_X0_payOff (E : zE) (p0 : Nat) (p1 : Int32) (p2 : Int64) (p4 : Nat) (h : zH) : Option (Int32 × zH) := f_X0_payOff_b0 E p0 p1 p2 p4 h
theorem m_X0_payOff {l : Launch} (hst : l.stackTraces = false) {D : zD} {B0 : Nat} {E : zE} {p0 : Nat} {p1 : Int32} {p2 : Int64} {p4 : Nat} {h h' : zH} {r : Int32} (hf : f_X0_payOff E p0 p1 p2 p4 h = some (r, h')) : zMet l yX0_payOff (wsW_ yX0_payOff cX0_payOff 6 (Option.some Jvm.ClassFile.FieldType.int) [((0 : Nat), (11 : Nat), (14 : Nat), (22 : Nat)), ((0 : Nat), (11 : Nat), (18 : Nat), (13 : Nat))]) 12 201 D B0 E [.ref p0, .int p1, .long p2, .ref p4] h (zoI r) h' := by
  unfold f_X0_payOff at hf
  refine zMet_ofH hst (by decide +kernel) rfl rfl (Nat.le_of_ble_eq_true rfl) (fun p e R s m below meth c C0 ht => ?_)
  show zW _ _ _ _ _ _ _ _ _ _ _ _ _ _ _ _ [(0, .ref p0), (1, .int p1), (2, .long p2), (4, .ref p4)] []
  exact w_X0_payOff_b0 C0 ht hf
def f_X0_terminate_b19 (E : zE) (s0 : Nat) (h : zH) : Option (Int32 × zH) :=
  some ((1 : Int32), h)
theorem w_X0_terminate_b19 (C0 : zCx p l e R s m args below meth c D B0 4 "FranchiseLedgerLaw" cX0_terminate E 12 197 (Option.some Jvm.ClassFile.FieldType.int) "terminate") (ht : c.exceptionTable.toList = tableOf [((0 : Nat), (16 : Nat), (19 : Nat), (22 : Nat))]) {r : Int32} {h' : zH} {s0 : Nat} {h : zH} (hf : f_X0_terminate_b19 E s0 h = some (r, h')) : zW p l e R s m args below meth c D B0 4 (zEnd D B0 R below args s (zoI r) h') h 19 [] [.ref s0] := by
  unfold f_X0_terminate_b19 at hf
  refine zr_astore_n (i := 3) (lv' := [(3, .ref s0)]) C0 dX0_terminate_19 rfl (by decide) (by first | rfl | simp [zst1, zst2, zcat_rf]) ?_
  refine zr_iconst C0 (v := 1) dX0_terminate_20 (by decide) ?_
  refine zretW hf ?_
  exact zr_iret C0 (ty := .int) rfl rfl dX0_terminate_21 rfl
def f_X0_terminate_b15 (E : zE) (s0 : Nat) (s1 : Int32) (s2 : Int64) (h : zH) : Option (Int32 × zH) :=
  (sL h s0 s1 s2).bind fun h1 =>
  some ((0 : Int32), h1)
theorem w_X0_terminate_b15 (C0 : zCx p l e R s m args below meth c D B0 4 "FranchiseLedgerLaw" cX0_terminate E 12 197 (Option.some Jvm.ClassFile.FieldType.int) "terminate") (ht : c.exceptionTable.toList = tableOf [((0 : Nat), (16 : Nat), (19 : Nat), (22 : Nat))]) {r : Int32} {h' : zH} {s0 : Nat} {s1 : Int32} {s2 : Int64} {h : zH} (hf : f_X0_terminate_b15 E s0 s1 s2 h = some (r, h')) : zW p l e R s m args below meth c D B0 4 (zEnd D B0 R below args s (zoI r) h') h 15 [] [.long s2, .int s1, .ref s0] := by
  unfold f_X0_terminate_b15 at hf
  obtain ⟨h1, e2, hf⟩ := zbind hf
  refine zr_last C0 dX0_terminate_15 e2 ?_
  refine zr_goto C0 (tgt := 22) dX0_terminate_16 (by decide) ?_
  refine zr_iconst C0 (v := 0) dX0_terminate_22 (by decide) ?_
  refine zretW hf ?_
  exact zr_iret C0 (ty := .int) rfl rfl dX0_terminate_23 rfl
def f_X0_terminate_b0 (E : zE) (p0 : Nat) (p1 : Int32) (p2 : Nat) (h : zH) : Option (Int32 × zH) :=
  (cko h p0 0).bind fun _ =>
  bnd2 (f_X1_terminate E p0 p1 h) fun x4 h2 =>
  Sum.elim (fun x5 => (
    if x5 = 0 then (
      f_X0_terminate_b15 E p2 (0 : Int32) (0 : Int64) h2
    ) else (
      f_X0_terminate_b15 E p2 (0 : Int32) (1 : Int64) h2
    )
  )) (fun q6 => (
    if q6.1 = 20 then (
      f_X0_terminate_b19 E q6.2 h2
    ) else (
    none
    )
  )) x4
theorem w_X0_terminate_b0 (C0 : zCx p l e R s m args below meth c D B0 4 "FranchiseLedgerLaw" cX0_terminate E 12 197 (Option.some Jvm.ClassFile.FieldType.int) "terminate") (ht : c.exceptionTable.toList = tableOf [((0 : Nat), (16 : Nat), (19 : Nat), (22 : Nat))]) {r : Int32} {h' : zH} {p0 : Nat} {p1 : Int32} {p2 : Nat} {h : zH} (hf : f_X0_terminate_b0 E p0 p1 p2 h = some (r, h')) : zW p l e R s m args below meth c D B0 4 (zEnd D B0 R below args s (zoI r) h') h 0 [(0, .ref p0), (1, .int p1), (2, .ref p2)] [] := by
  unfold f_X0_terminate_b0 at hf
  refine zr_aload_n C0 dX0_terminate_0 rfl 2 rfl ?_
  refine zr_iconst C0 (v := 0) dX0_terminate_1 (by decide) ?_
  refine zr_aload_n C0 dX0_terminate_2 rfl 0 rfl ?_
  refine zr_iload_n C0 dX0_terminate_3 rfl 1 rfl ?_
  obtain ⟨_, e1, hf⟩ := zbind hf
  obtain ⟨x4, h2, e3, hf⟩ := zbind2 hf
  rcases x4 with x5 | q6
  · have hf := zinl hf
    refine zr_callV_r C0 cv_X0_120_X1 rfl (zcko e1) (m_X1_terminate C0.2.2.2.2.2.2.1 e3) (by decide) (by decide) rfl rfl (Nat.le_of_ble_eq_true rfl) dX0_terminate_4 rfl ?_
    refine zr_if_eq C0 (tgt := 14) dX0_terminate_7 (by decide) (fun c7 => ?_) (fun c7 => ?_)
    · have hf := zif_t c7 hf
      refine zr_lconst C0 (v := 0) dX0_terminate_14 (by decide) ?_
      refine zr_sub [] rfl ?_
      exact w_X0_terminate_b15 C0 ht hf
    · have hf := zif_f c7 hf
      refine zr_lconst C0 (v := 1) dX0_terminate_10 (by decide) ?_
      refine zr_goto C0 (tgt := 15) dX0_terminate_11 (by decide) ?_
      refine zr_sub [] rfl ?_
      exact w_X0_terminate_b15 C0 ht hf
  · have hf := zinr hf
    rcases Decidable.em (q6.1 = 20) with c8 | c8
    · obtain ⟨q1, q2⟩ := q6
      subst c8
      have hf := zif_t rfl hf
      refine zr_callV_t C0 cv_X0_120_X1 rfl (zcko e1) (m_X1_terminate C0.2.2.2.2.2.2.1 e3) (by decide) (by decide) rfl rfl (Nat.le_of_ble_eq_true rfl) dX0_terminate_4 (zr_catch C0 (tableOf []) ⟨0, 16, 19, 22⟩ (tableOf []) (by rw [ht]; rfl) rfl (fun z hz => by cases hz) (by decide) (by decide) q2014 q787 ?_)
      refine zr_sub [] rfl ?_
      exact w_X0_terminate_b19 C0 ht hf
    have hf := zif_f c8 hf
    cases hf
def f_X0_terminate (E : zE) (p0 : Nat) (p1 : Int32) (p2 : Nat) (h : zH) : Option (Int32 × zH) := f_X0_terminate_b0 E p0 p1 p2 h
theorem m_X0_terminate {l : Launch} (hst : l.stackTraces = false) {D : zD} {B0 : Nat} {E : zE} {p0 : Nat} {p1 : Int32} {p2 : Nat} {h h' : zH} {r : Int32} (hf : f_X0_terminate E p0 p1 p2 h = some (r, h')) : zMet l yX0_terminate (wsW_ yX0_terminate cX0_terminate 4 (Option.some Jvm.ClassFile.FieldType.int) [((0 : Nat), (16 : Nat), (19 : Nat), (22 : Nat))]) 12 197 D B0 E [.ref p0, .int p1, .ref p2] h (zoI r) h' := by
  unfold f_X0_terminate at hf
  refine zMet_ofH hst (by decide +kernel) rfl rfl (Nat.le_of_ble_eq_true rfl) (fun p e R s m below meth c C0 ht => ?_)
  show zW _ _ _ _ _ _ _ _ _ _ _ _ _ _ _ _ [(0, .ref p0), (1, .int p1), (2, .ref p2)] []
  exact w_X0_terminate_b0 C0 ht hf
def f_X0_status_b12 (E : zE) (s0 : Nat) (h : zH) : Option (Int32 × zH) :=
  some ((1 : Int32), h)
theorem w_X0_status_b12 (C0 : zCx p l e R s m args below meth c D B0 4 "FranchiseLedgerLaw" cX0_status E 12 196 (Option.some Jvm.ClassFile.FieldType.int) "status") (ht : c.exceptionTable.toList = tableOf [((0 : Nat), (9 : Nat), (12 : Nat), (22 : Nat))]) {r : Int32} {h' : zH} {s0 : Nat} {h : zH} (hf : f_X0_status_b12 E s0 h = some (r, h')) : zW p l e R s m args below meth c D B0 4 (zEnd D B0 R below args s (zoI r) h') h 12 [] [.ref s0] := by
  unfold f_X0_status_b12 at hf
  refine zr_astore_n (i := 3) (lv' := [(3, .ref s0)]) C0 dX0_status_12 rfl (by decide) (by first | rfl | simp [zst1, zst2, zcat_rf]) ?_
  refine zr_iconst C0 (v := 1) dX0_status_13 (by decide) ?_
  refine zretW hf ?_
  exact zr_iret C0 (ty := .int) rfl rfl dX0_status_14 rfl
def f_X0_status_b0 (E : zE) (p0 : Nat) (p1 : Int32) (p2 : Nat) (h : zH) : Option (Int32 × zH) :=
  (cko h p0 0).bind fun _ =>
  bnd2 (f_X1_status E p0 p1 h) fun x4 h2 =>
  Sum.elim (fun x5 => (
    (sL h2 p2 (0 : Int32) (x5.toInt64)).bind fun h7 =>
    some ((0 : Int32), h7)
  )) (fun q6 => (
    if q6.1 = 20 then (
      f_X0_status_b12 E q6.2 h2
    ) else (
    none
    )
  )) x4
theorem w_X0_status_b0 (C0 : zCx p l e R s m args below meth c D B0 4 "FranchiseLedgerLaw" cX0_status E 12 196 (Option.some Jvm.ClassFile.FieldType.int) "status") (ht : c.exceptionTable.toList = tableOf [((0 : Nat), (9 : Nat), (12 : Nat), (22 : Nat))]) {r : Int32} {h' : zH} {p0 : Nat} {p1 : Int32} {p2 : Nat} {h : zH} (hf : f_X0_status_b0 E p0 p1 p2 h = some (r, h')) : zW p l e R s m args below meth c D B0 4 (zEnd D B0 R below args s (zoI r) h') h 0 [(0, .ref p0), (1, .int p1), (2, .ref p2)] [] := by
  unfold f_X0_status_b0 at hf
  refine zr_aload_n C0 dX0_status_0 rfl 2 rfl ?_
  refine zr_iconst C0 (v := 0) dX0_status_1 (by decide) ?_
  refine zr_aload_n C0 dX0_status_2 rfl 0 rfl ?_
  refine zr_iload_n C0 dX0_status_3 rfl 1 rfl ?_
  obtain ⟨_, e1, hf⟩ := zbind hf
  obtain ⟨x4, h2, e3, hf⟩ := zbind2 hf
  rcases x4 with x5 | q6
  · have hf := zinl hf
    refine zr_callV_r C0 cv_X0_123_X1 rfl (zcko e1) (m_X1_status C0.2.2.2.2.2.2.1 e3) (by decide) (by decide) rfl rfl (Nat.le_of_ble_eq_true rfl) dX0_status_4 rfl ?_
    refine zr_i2l C0 dX0_status_7 ?_
    obtain ⟨h7, e8, hf⟩ := zbind hf
    refine zr_last C0 dX0_status_8 e8 ?_
    refine zr_goto C0 (tgt := 15) dX0_status_9 (by decide) ?_
    refine zr_iconst C0 (v := 0) dX0_status_15 (by decide) ?_
    refine zretW hf ?_
    exact zr_iret C0 (ty := .int) rfl rfl dX0_status_16 rfl
  · have hf := zinr hf
    rcases Decidable.em (q6.1 = 20) with c9 | c9
    · obtain ⟨q1, q2⟩ := q6
      subst c9
      have hf := zif_t rfl hf
      refine zr_callV_t C0 cv_X0_123_X1 rfl (zcko e1) (m_X1_status C0.2.2.2.2.2.2.1 e3) (by decide) (by decide) rfl rfl (Nat.le_of_ble_eq_true rfl) dX0_status_4 (zr_catch C0 (tableOf []) ⟨0, 9, 12, 22⟩ (tableOf []) (by rw [ht]; rfl) rfl (fun z hz => by cases hz) (by decide) (by decide) q2014 q787 ?_)
      refine zr_sub [] rfl ?_
      exact w_X0_status_b12 C0 ht hf
    have hf := zif_f c9 hf
    cases hf
def f_X0_status (E : zE) (p0 : Nat) (p1 : Int32) (p2 : Nat) (h : zH) : Option (Int32 × zH) := f_X0_status_b0 E p0 p1 p2 h
theorem m_X0_status {l : Launch} (hst : l.stackTraces = false) {D : zD} {B0 : Nat} {E : zE} {p0 : Nat} {p1 : Int32} {p2 : Nat} {h h' : zH} {r : Int32} (hf : f_X0_status E p0 p1 p2 h = some (r, h')) : zMet l yX0_status (wsW_ yX0_status cX0_status 4 (Option.some Jvm.ClassFile.FieldType.int) [((0 : Nat), (9 : Nat), (12 : Nat), (22 : Nat))]) 12 196 D B0 E [.ref p0, .int p1, .ref p2] h (zoI r) h' := by
  unfold f_X0_status at hf
  refine zMet_ofH hst (by decide +kernel) rfl rfl (Nat.le_of_ble_eq_true rfl) (fun p e R s m below meth c C0 ht => ?_)
  show zW _ _ _ _ _ _ _ _ _ _ _ _ _ _ _ _ [(0, .ref p0), (1, .int p1), (2, .ref p2)] []
  exact w_X0_status_b0 C0 ht hf
def f_X0_contributions_b11 (E : zE) (s0 : Nat) (h : zH) : Option (Int32 × zH) :=
  some ((1 : Int32), h)
theorem w_X0_contributions_b11 (C0 : zCx p l e R s m args below meth c D B0 4 "FranchiseLedgerLaw" cX0_contributions E 12 196 (Option.some Jvm.ClassFile.FieldType.int) "contributions") (ht : c.exceptionTable.toList = tableOf [((0 : Nat), (8 : Nat), (11 : Nat), (22 : Nat))]) {r : Int32} {h' : zH} {s0 : Nat} {h : zH} (hf : f_X0_contributions_b11 E s0 h = some (r, h')) : zW p l e R s m args below meth c D B0 4 (zEnd D B0 R below args s (zoI r) h') h 11 [] [.ref s0] := by
  unfold f_X0_contributions_b11 at hf
  refine zr_astore_n (i := 3) (lv' := [(3, .ref s0)]) C0 dX0_contributions_11 rfl (by decide) (by first | rfl | simp [zst1, zst2, zcat_rf]) ?_
  refine zr_iconst C0 (v := 1) dX0_contributions_12 (by decide) ?_
  refine zretW hf ?_
  exact zr_iret C0 (ty := .int) rfl rfl dX0_contributions_13 rfl
def f_X0_contributions_b0 (E : zE) (p0 : Nat) (p1 : Int32) (p2 : Nat) (h : zH) : Option (Int32 × zH) :=
  (cko h p0 0).bind fun _ =>
  bnd2 (f_X1_contributions E p0 p1 h) fun x4 h2 =>
  Sum.elim (fun x5 => (
    (sL h2 p2 (0 : Int32) x5).bind fun h7 =>
    some ((0 : Int32), h7)
  )) (fun q6 => (
    if q6.1 = 20 then (
      f_X0_contributions_b11 E q6.2 h2
    ) else (
    none
    )
  )) x4
theorem w_X0_contributions_b0 (C0 : zCx p l e R s m args below meth c D B0 4 "FranchiseLedgerLaw" cX0_contributions E 12 196 (Option.some Jvm.ClassFile.FieldType.int) "contributions") (ht : c.exceptionTable.toList = tableOf [((0 : Nat), (8 : Nat), (11 : Nat), (22 : Nat))]) {r : Int32} {h' : zH} {p0 : Nat} {p1 : Int32} {p2 : Nat} {h : zH} (hf : f_X0_contributions_b0 E p0 p1 p2 h = some (r, h')) : zW p l e R s m args below meth c D B0 4 (zEnd D B0 R below args s (zoI r) h') h 0 [(0, .ref p0), (1, .int p1), (2, .ref p2)] [] := by
  unfold f_X0_contributions_b0 at hf
  refine zr_aload_n C0 dX0_contributions_0 rfl 2 rfl ?_
  refine zr_iconst C0 (v := 0) dX0_contributions_1 (by decide) ?_
  refine zr_aload_n C0 dX0_contributions_2 rfl 0 rfl ?_
  refine zr_iload_n C0 dX0_contributions_3 rfl 1 rfl ?_
  obtain ⟨_, e1, hf⟩ := zbind hf
  obtain ⟨x4, h2, e3, hf⟩ := zbind2 hf
  rcases x4 with x5 | q6
  · have hf := zinl hf
    refine zr_callV_r C0 cv_X0_126_X1 rfl (zcko e1) (m_X1_contributions C0.2.2.2.2.2.2.1 e3) (by decide) (by decide) rfl rfl (Nat.le_of_ble_eq_true rfl) dX0_contributions_4 rfl ?_
    obtain ⟨h7, e8, hf⟩ := zbind hf
    refine zr_last C0 dX0_contributions_7 e8 ?_
    refine zr_goto C0 (tgt := 14) dX0_contributions_8 (by decide) ?_
    refine zr_iconst C0 (v := 0) dX0_contributions_14 (by decide) ?_
    refine zretW hf ?_
    exact zr_iret C0 (ty := .int) rfl rfl dX0_contributions_15 rfl
  · have hf := zinr hf
    rcases Decidable.em (q6.1 = 20) with c9 | c9
    · obtain ⟨q1, q2⟩ := q6
      subst c9
      have hf := zif_t rfl hf
      refine zr_callV_t C0 cv_X0_126_X1 rfl (zcko e1) (m_X1_contributions C0.2.2.2.2.2.2.1 e3) (by decide) (by decide) rfl rfl (Nat.le_of_ble_eq_true rfl) dX0_contributions_4 (zr_catch C0 (tableOf []) ⟨0, 8, 11, 22⟩ (tableOf []) (by rw [ht]; rfl) rfl (fun z hz => by cases hz) (by decide) (by decide) q2014 q787 ?_)
      refine zr_sub [] rfl ?_
      exact w_X0_contributions_b11 C0 ht hf
    have hf := zif_f c9 hf
    cases hf
def f_X0_contributions (E : zE) (p0 : Nat) (p1 : Int32) (p2 : Nat) (h : zH) : Option (Int32 × zH) := f_X0_contributions_b0 E p0 p1 p2 h
theorem m_X0_contributions {l : Launch} (hst : l.stackTraces = false) {D : zD} {B0 : Nat} {E : zE} {p0 : Nat} {p1 : Int32} {p2 : Nat} {h h' : zH} {r : Int32} (hf : f_X0_contributions E p0 p1 p2 h = some (r, h')) : zMet l yX0_contributions (wsW_ yX0_contributions cX0_contributions 4 (Option.some Jvm.ClassFile.FieldType.int) [((0 : Nat), (8 : Nat), (11 : Nat), (22 : Nat))]) 12 196 D B0 E [.ref p0, .int p1, .ref p2] h (zoI r) h' := by
  unfold f_X0_contributions at hf
  refine zMet_ofH hst (by decide +kernel) rfl rfl (Nat.le_of_ble_eq_true rfl) (fun p e R s m below meth c C0 ht => ?_)
  show zW _ _ _ _ _ _ _ _ _ _ _ _ _ _ _ _ [(0, .ref p0), (1, .int p1), (2, .ref p2)] []
  exact w_X0_contributions_b0 C0 ht hf
def f_X0_spent_b11 (E : zE) (s0 : Nat) (h : zH) : Option (Int32 × zH) :=
  some ((1 : Int32), h)
theorem w_X0_spent_b11 (C0 : zCx p l e R s m args below meth c D B0 4 "FranchiseLedgerLaw" cX0_spent E 11 175 (Option.some Jvm.ClassFile.FieldType.int) "spent") (ht : c.exceptionTable.toList = tableOf [((0 : Nat), (8 : Nat), (11 : Nat), (13 : Nat))]) {r : Int32} {h' : zH} {s0 : Nat} {h : zH} (hf : f_X0_spent_b11 E s0 h = some (r, h')) : zW p l e R s m args below meth c D B0 4 (zEnd D B0 R below args s (zoI r) h') h 11 [] [.ref s0] := by
  unfold f_X0_spent_b11 at hf
  refine zr_astore_n (i := 3) (lv' := [(3, .ref s0)]) C0 dX0_spent_11 rfl (by decide) (by first | rfl | simp [zst1, zst2, zcat_rf]) ?_
  refine zr_iconst C0 (v := 1) dX0_spent_12 (by decide) ?_
  refine zretW hf ?_
  exact zr_iret C0 (ty := .int) rfl rfl dX0_spent_13 rfl
def f_X0_spent_b0 (E : zE) (p0 : Nat) (p1 : Int32) (p2 : Nat) (h : zH) : Option (Int32 × zH) :=
  (cko h p0 0).bind fun _ =>
  bnd2 (f_X1_spent E p0 p1 h) fun x4 h2 =>
  Sum.elim (fun x5 => (
    (sL h2 p2 (0 : Int32) x5).bind fun h7 =>
    some ((0 : Int32), h7)
  )) (fun q6 => (
    if q6.1 = 21 then (
      f_X0_spent_b11 E q6.2 h2
    ) else (
    none
    )
  )) x4
theorem w_X0_spent_b0 (C0 : zCx p l e R s m args below meth c D B0 4 "FranchiseLedgerLaw" cX0_spent E 11 175 (Option.some Jvm.ClassFile.FieldType.int) "spent") (ht : c.exceptionTable.toList = tableOf [((0 : Nat), (8 : Nat), (11 : Nat), (13 : Nat))]) {r : Int32} {h' : zH} {p0 : Nat} {p1 : Int32} {p2 : Nat} {h : zH} (hf : f_X0_spent_b0 E p0 p1 p2 h = some (r, h')) : zW p l e R s m args below meth c D B0 4 (zEnd D B0 R below args s (zoI r) h') h 0 [(0, .ref p0), (1, .int p1), (2, .ref p2)] [] := by
  unfold f_X0_spent_b0 at hf
  refine zr_aload_n C0 dX0_spent_0 rfl 2 rfl ?_
  refine zr_iconst C0 (v := 0) dX0_spent_1 (by decide) ?_
  refine zr_aload_n C0 dX0_spent_2 rfl 0 rfl ?_
  refine zr_iload_n C0 dX0_spent_3 rfl 1 rfl ?_
  obtain ⟨_, e1, hf⟩ := zbind hf
  obtain ⟨x4, h2, e3, hf⟩ := zbind2 hf
  rcases x4 with x5 | q6
  · have hf := zinl hf
    refine zr_callV_r C0 cv_X0_129_X1 rfl (zcko e1) (m_X1_spent C0.2.2.2.2.2.2.1 e3) (by decide) (by decide) rfl rfl (Nat.le_of_ble_eq_true rfl) dX0_spent_4 rfl ?_
    obtain ⟨h7, e8, hf⟩ := zbind hf
    refine zr_last C0 dX0_spent_7 e8 ?_
    refine zr_goto C0 (tgt := 14) dX0_spent_8 (by decide) ?_
    refine zr_iconst C0 (v := 0) dX0_spent_14 (by decide) ?_
    refine zretW hf ?_
    exact zr_iret C0 (ty := .int) rfl rfl dX0_spent_15 rfl
  · have hf := zinr hf
    rcases Decidable.em (q6.1 = 21) with c9 | c9
    · obtain ⟨q1, q2⟩ := q6
      subst c9
      have hf := zif_t rfl hf
      refine zr_callV_t C0 cv_X0_129_X1 rfl (zcko e1) (m_X1_spent C0.2.2.2.2.2.2.1 e3) (by decide) (by decide) rfl rfl (Nat.le_of_ble_eq_true rfl) dX0_spent_4 (zr_catch C0 (tableOf []) ⟨0, 8, 11, 13⟩ (tableOf []) (by rw [ht]; rfl) rfl (fun z hz => by cases hz) (by decide) (by decide) q1743 q208 ?_)
      refine zr_sub [] rfl ?_
      exact w_X0_spent_b11 C0 ht hf
    have hf := zif_f c9 hf
    cases hf
def f_X0_spent (E : zE) (p0 : Nat) (p1 : Int32) (p2 : Nat) (h : zH) : Option (Int32 × zH) := f_X0_spent_b0 E p0 p1 p2 h
theorem m_X0_spent {l : Launch} (hst : l.stackTraces = false) {D : zD} {B0 : Nat} {E : zE} {p0 : Nat} {p1 : Int32} {p2 : Nat} {h h' : zH} {r : Int32} (hf : f_X0_spent E p0 p1 p2 h = some (r, h')) : zMet l yX0_spent (wsW_ yX0_spent cX0_spent 4 (Option.some Jvm.ClassFile.FieldType.int) [((0 : Nat), (8 : Nat), (11 : Nat), (13 : Nat))]) 11 175 D B0 E [.ref p0, .int p1, .ref p2] h (zoI r) h' := by
  unfold f_X0_spent at hf
  refine zMet_ofH hst (by decide +kernel) rfl rfl (Nat.le_of_ble_eq_true rfl) (fun p e R s m below meth c C0 ht => ?_)
  show zW _ _ _ _ _ _ _ _ _ _ _ _ _ _ _ _ [(0, .ref p0), (1, .int p1), (2, .ref p2)] []
  exact w_X0_spent_b0 C0 ht hf
def f_X0_campaign_b19 (E : zE) (s0 : Nat) (h : zH) : Option (Int32 × zH) :=
  some ((1 : Int32), h)
theorem w_X0_campaign_b19 (C0 : zCx p l e R s m args below meth c D B0 5 "FranchiseLedgerLaw" cX0_campaign E 11 189 (Option.some Jvm.ClassFile.FieldType.int) "campaign") (ht : c.exceptionTable.toList = tableOf [((0 : Nat), (16 : Nat), (19 : Nat), (13 : Nat))]) {r : Int32} {h' : zH} {s0 : Nat} {h : zH} (hf : f_X0_campaign_b19 E s0 h = some (r, h')) : zW p l e R s m args below meth c D B0 5 (zEnd D B0 R below args s (zoI r) h') h 19 [] [.ref s0] := by
  unfold f_X0_campaign_b19 at hf
  refine zr_astore (i := 4) (lv' := [(4, .ref s0)]) C0 dX0_campaign_19 (by decide) (by first | rfl | simp [zst1, zst2, zcat_rf]) ?_
  refine zr_iconst C0 (v := 1) dX0_campaign_21 (by decide) ?_
  refine zretW hf ?_
  exact zr_iret C0 (ty := .int) rfl rfl dX0_campaign_22 rfl
def f_X0_campaign_b15 (E : zE) (s0 : Nat) (s1 : Int32) (s2 : Int64) (h : zH) : Option (Int32 × zH) :=
  (sL h s0 s1 s2).bind fun h1 =>
  some ((0 : Int32), h1)
theorem w_X0_campaign_b15 (C0 : zCx p l e R s m args below meth c D B0 5 "FranchiseLedgerLaw" cX0_campaign E 11 189 (Option.some Jvm.ClassFile.FieldType.int) "campaign") (ht : c.exceptionTable.toList = tableOf [((0 : Nat), (16 : Nat), (19 : Nat), (13 : Nat))]) {r : Int32} {h' : zH} {s0 : Nat} {s1 : Int32} {s2 : Int64} {h : zH} (hf : f_X0_campaign_b15 E s0 s1 s2 h = some (r, h')) : zW p l e R s m args below meth c D B0 5 (zEnd D B0 R below args s (zoI r) h') h 15 [] [.long s2, .int s1, .ref s0] := by
  unfold f_X0_campaign_b15 at hf
  obtain ⟨h1, e2, hf⟩ := zbind hf
  refine zr_last C0 dX0_campaign_15 e2 ?_
  refine zr_goto C0 (tgt := 23) dX0_campaign_16 (by decide) ?_
  refine zr_iconst C0 (v := 0) dX0_campaign_23 (by decide) ?_
  refine zretW hf ?_
  exact zr_iret C0 (ty := .int) rfl rfl dX0_campaign_24 rfl
def f_X0_campaign_b0 (E : zE) (p0 : Nat) (p1 : Int64) (p3 : Nat) (h : zH) : Option (Int32 × zH) :=
  (cko h p0 0).bind fun _ =>
  bnd2 (f_X1_campaign E p0 p1 h) fun x4 h2 =>
  Sum.elim (fun x5 => (
    if x5 = 0 then (
      f_X0_campaign_b15 E p3 (0 : Int32) (0 : Int64) h2
    ) else (
      f_X0_campaign_b15 E p3 (0 : Int32) (1 : Int64) h2
    )
  )) (fun q6 => (
    if q6.1 = 21 then (
      f_X0_campaign_b19 E q6.2 h2
    ) else (
    none
    )
  )) x4
theorem w_X0_campaign_b0 (C0 : zCx p l e R s m args below meth c D B0 5 "FranchiseLedgerLaw" cX0_campaign E 11 189 (Option.some Jvm.ClassFile.FieldType.int) "campaign") (ht : c.exceptionTable.toList = tableOf [((0 : Nat), (16 : Nat), (19 : Nat), (13 : Nat))]) {r : Int32} {h' : zH} {p0 : Nat} {p1 : Int64} {p3 : Nat} {h : zH} (hf : f_X0_campaign_b0 E p0 p1 p3 h = some (r, h')) : zW p l e R s m args below meth c D B0 5 (zEnd D B0 R below args s (zoI r) h') h 0 [(0, .ref p0), (1, .long p1), (3, .ref p3)] [] := by
  unfold f_X0_campaign_b0 at hf
  refine zr_aload_n C0 dX0_campaign_0 rfl 2 rfl ?_
  refine zr_iconst C0 (v := 0) dX0_campaign_1 (by decide) ?_
  refine zr_aload_n C0 dX0_campaign_2 rfl 0 rfl ?_
  refine zr_lload_n C0 dX0_campaign_3 rfl 1 rfl ?_
  obtain ⟨_, e1, hf⟩ := zbind hf
  obtain ⟨x4, h2, e3, hf⟩ := zbind2 hf
  rcases x4 with x5 | q6
  · have hf := zinl hf
    refine zr_callV_r C0 cv_X0_132_X1 rfl (zcko e1) (m_X1_campaign C0.2.2.2.2.2.2.1 e3) (by decide) (by decide) rfl rfl (Nat.le_of_ble_eq_true rfl) dX0_campaign_4 rfl ?_
    refine zr_if_eq C0 (tgt := 14) dX0_campaign_7 (by decide) (fun c7 => ?_) (fun c7 => ?_)
    · have hf := zif_t c7 hf
      refine zr_lconst C0 (v := 0) dX0_campaign_14 (by decide) ?_
      refine zr_sub [] rfl ?_
      exact w_X0_campaign_b15 C0 ht hf
    · have hf := zif_f c7 hf
      refine zr_lconst C0 (v := 1) dX0_campaign_10 (by decide) ?_
      refine zr_goto C0 (tgt := 15) dX0_campaign_11 (by decide) ?_
      refine zr_sub [] rfl ?_
      exact w_X0_campaign_b15 C0 ht hf
  · have hf := zinr hf
    rcases Decidable.em (q6.1 = 21) with c8 | c8
    · obtain ⟨q1, q2⟩ := q6
      subst c8
      have hf := zif_t rfl hf
      refine zr_callV_t C0 cv_X0_132_X1 rfl (zcko e1) (m_X1_campaign C0.2.2.2.2.2.2.1 e3) (by decide) (by decide) rfl rfl (Nat.le_of_ble_eq_true rfl) dX0_campaign_4 (zr_catch C0 (tableOf []) ⟨0, 16, 19, 13⟩ (tableOf []) (by rw [ht]; rfl) rfl (fun z hz => by cases hz) (by decide) (by decide) q1743 q208 ?_)
      refine zr_sub [] rfl ?_
      exact w_X0_campaign_b19 C0 ht hf
    have hf := zif_f c8 hf
    cases hf
def f_X0_campaign (E : zE) (p0 : Nat) (p1 : Int64) (p3 : Nat) (h : zH) : Option (Int32 × zH) := f_X0_campaign_b0 E p0 p1 p3 h
theorem m_X0_campaign {l : Launch} (hst : l.stackTraces = false) {D : zD} {B0 : Nat} {E : zE} {p0 : Nat} {p1 : Int64} {p3 : Nat} {h h' : zH} {r : Int32} (hf : f_X0_campaign E p0 p1 p3 h = some (r, h')) : zMet l yX0_campaign (wsW_ yX0_campaign cX0_campaign 5 (Option.some Jvm.ClassFile.FieldType.int) [((0 : Nat), (16 : Nat), (19 : Nat), (13 : Nat))]) 11 189 D B0 E [.ref p0, .long p1, .ref p3] h (zoI r) h' := by
  unfold f_X0_campaign at hf
  refine zMet_ofH hst (by decide +kernel) rfl rfl (Nat.le_of_ble_eq_true rfl) (fun p e R s m below meth c C0 ht => ?_)
  show zW _ _ _ _ _ _ _ _ _ _ _ _ _ _ _ _ [(0, .ref p0), (1, .long p1), (3, .ref p3)] []
  exact w_X0_campaign_b0 C0 ht hf
def f_X0_grant_b21 (E : zE) (s0 : Nat) (h : zH) : Option (Int32 × zH) :=
  some ((1 : Int32), h)
theorem w_X0_grant_b21 (C0 : zCx p l e R s m args below meth c D B0 6 "FranchiseLedgerLaw" cX0_grant E 12 199 (Option.some Jvm.ClassFile.FieldType.int) "grant") (ht : c.exceptionTable.toList = tableOf [((0 : Nat), (18 : Nat), (21 : Nat), (22 : Nat)), ((0 : Nat), (18 : Nat), (25 : Nat), (13 : Nat))]) {r : Int32} {h' : zH} {s0 : Nat} {h : zH} (hf : f_X0_grant_b21 E s0 h = some (r, h')) : zW p l e R s m args below meth c D B0 6 (zEnd D B0 R below args s (zoI r) h') h 21 [] [.ref s0] := by
  unfold f_X0_grant_b21 at hf
  refine zr_astore (i := 5) (lv' := [(5, .ref s0)]) C0 dX0_grant_21 (by decide) (by first | rfl | simp [zst1, zst2, zcat_rf]) ?_
  refine zr_iconst C0 (v := 1) dX0_grant_23 (by decide) ?_
  refine zretW hf ?_
  exact zr_iret C0 (ty := .int) rfl rfl dX0_grant_24 rfl
def f_X0_grant_b25 (E : zE) (s0 : Nat) (h : zH) : Option (Int32 × zH) :=
  some ((2 : Int32), h)
theorem w_X0_grant_b25 (C0 : zCx p l e R s m args below meth c D B0 6 "FranchiseLedgerLaw" cX0_grant E 12 199 (Option.some Jvm.ClassFile.FieldType.int) "grant") (ht : c.exceptionTable.toList = tableOf [((0 : Nat), (18 : Nat), (21 : Nat), (22 : Nat)), ((0 : Nat), (18 : Nat), (25 : Nat), (13 : Nat))]) {r : Int32} {h' : zH} {s0 : Nat} {h : zH} (hf : f_X0_grant_b25 E s0 h = some (r, h')) : zW p l e R s m args below meth c D B0 6 (zEnd D B0 R below args s (zoI r) h') h 25 [] [.ref s0] := by
  unfold f_X0_grant_b25 at hf
  refine zr_astore (i := 5) (lv' := [(5, .ref s0)]) C0 dX0_grant_25 (by decide) (by first | rfl | simp [zst1, zst2, zcat_rf]) ?_
  refine zr_iconst C0 (v := 2) dX0_grant_27 (by decide) ?_
  refine zretW hf ?_
  exact zr_iret C0 (ty := .int) rfl rfl dX0_grant_28 rfl
def f_X0_grant_b17 (E : zE) (s0 : Nat) (s1 : Int32) (s2 : Int64) (h : zH) : Option (Int32 × zH) :=
  (sL h s0 s1 s2).bind fun h1 =>
  some ((0 : Int32), h1)
theorem w_X0_grant_b17 (C0 : zCx p l e R s m args below meth c D B0 6 "FranchiseLedgerLaw" cX0_grant E 12 199 (Option.some Jvm.ClassFile.FieldType.int) "grant") (ht : c.exceptionTable.toList = tableOf [((0 : Nat), (18 : Nat), (21 : Nat), (22 : Nat)), ((0 : Nat), (18 : Nat), (25 : Nat), (13 : Nat))]) {r : Int32} {h' : zH} {s0 : Nat} {s1 : Int32} {s2 : Int64} {h : zH} (hf : f_X0_grant_b17 E s0 s1 s2 h = some (r, h')) : zW p l e R s m args below meth c D B0 6 (zEnd D B0 R below args s (zoI r) h') h 17 [] [.long s2, .int s1, .ref s0] := by
  unfold f_X0_grant_b17 at hf
  obtain ⟨h1, e2, hf⟩ := zbind hf
  refine zr_last C0 dX0_grant_17 e2 ?_
  refine zr_goto C0 (tgt := 29) dX0_grant_18 (by decide) ?_
  refine zr_iconst C0 (v := 0) dX0_grant_29 (by decide) ?_
  refine zretW hf ?_
  exact zr_iret C0 (ty := .int) rfl rfl dX0_grant_30 rfl
def f_X0_grant_b0 (E : zE) (p0 : Nat) (p1 : Int32) (p2 : Int64) (p4 : Nat) (h : zH) : Option (Int32 × zH) :=
  (cko h p0 0).bind fun _ =>
  bnd2 (f_X1_grant E p0 p1 p2 h) fun x4 h2 =>
  Sum.elim (fun x5 => (
    if x5 = 0 then (
      f_X0_grant_b17 E p4 (0 : Int32) (0 : Int64) h2
    ) else (
      f_X0_grant_b17 E p4 (0 : Int32) (1 : Int64) h2
    )
  )) (fun q6 => (
    if q6.1 = 20 then (
      f_X0_grant_b21 E q6.2 h2
    ) else (
    if q6.1 = 21 then (
      f_X0_grant_b25 E q6.2 h2
    ) else (
    none
    ))
  )) x4
theorem w_X0_grant_b0 (C0 : zCx p l e R s m args below meth c D B0 6 "FranchiseLedgerLaw" cX0_grant E 12 199 (Option.some Jvm.ClassFile.FieldType.int) "grant") (ht : c.exceptionTable.toList = tableOf [((0 : Nat), (18 : Nat), (21 : Nat), (22 : Nat)), ((0 : Nat), (18 : Nat), (25 : Nat), (13 : Nat))]) {r : Int32} {h' : zH} {p0 : Nat} {p1 : Int32} {p2 : Int64} {p4 : Nat} {h : zH} (hf : f_X0_grant_b0 E p0 p1 p2 p4 h = some (r, h')) : zW p l e R s m args below meth c D B0 6 (zEnd D B0 R below args s (zoI r) h') h 0 [(0, .ref p0), (1, .int p1), (2, .long p2), (4, .ref p4)] [] := by
  unfold f_X0_grant_b0 at hf
  refine zr_aload C0 dX0_grant_0 3 rfl ?_
  refine zr_iconst C0 (v := 0) dX0_grant_2 (by decide) ?_
  refine zr_aload_n C0 dX0_grant_3 rfl 0 rfl ?_
  refine zr_iload_n C0 dX0_grant_4 rfl 1 rfl ?_
  refine zr_lload_n C0 dX0_grant_5 rfl 2 rfl ?_
  obtain ⟨_, e1, hf⟩ := zbind hf
  obtain ⟨x4, h2, e3, hf⟩ := zbind2 hf
  rcases x4 with x5 | q6
  · have hf := zinl hf
    refine zr_callV_r C0 cv_X0_136_X1 rfl (zcko e1) (m_X1_grant C0.2.2.2.2.2.2.1 e3) (by decide) (by decide) rfl rfl (Nat.le_of_ble_eq_true rfl) dX0_grant_6 rfl ?_
    refine zr_if_eq C0 (tgt := 16) dX0_grant_9 (by decide) (fun c7 => ?_) (fun c7 => ?_)
    · have hf := zif_t c7 hf
      refine zr_lconst C0 (v := 0) dX0_grant_16 (by decide) ?_
      refine zr_sub [] rfl ?_
      exact w_X0_grant_b17 C0 ht hf
    · have hf := zif_f c7 hf
      refine zr_lconst C0 (v := 1) dX0_grant_12 (by decide) ?_
      refine zr_goto C0 (tgt := 17) dX0_grant_13 (by decide) ?_
      refine zr_sub [] rfl ?_
      exact w_X0_grant_b17 C0 ht hf
  · have hf := zinr hf
    rcases Decidable.em (q6.1 = 20) with c8 | c8
    · obtain ⟨q1, q2⟩ := q6
      subst c8
      have hf := zif_t rfl hf
      refine zr_callV_t C0 cv_X0_136_X1 rfl (zcko e1) (m_X1_grant C0.2.2.2.2.2.2.1 e3) (by decide) (by decide) rfl rfl (Nat.le_of_ble_eq_true rfl) dX0_grant_6 (zr_catch C0 (tableOf []) ⟨0, 18, 21, 22⟩ (tableOf [(0, 18, 25, 13)]) (by rw [ht]; rfl) rfl (fun z hz => by cases hz) (by decide) (by decide) q2014 q787 ?_)
      refine zr_sub [] rfl ?_
      exact w_X0_grant_b21 C0 ht hf
    have hf := zif_f c8 hf
    rcases Decidable.em (q6.1 = 21) with c9 | c9
    · obtain ⟨q1, q2⟩ := q6
      subst c9
      have hf := zif_t rfl hf
      refine zr_callV_t C0 cv_X0_136_X1 rfl (zcko e1) (m_X1_grant C0.2.2.2.2.2.2.1 e3) (by decide) (by decide) rfl rfl (Nat.le_of_ble_eq_true rfl) dX0_grant_6 (zr_catch C0 (tableOf [(0, 18, 21, 22)]) ⟨0, 18, 25, 13⟩ (tableOf []) (by rw [ht]; rfl) rfl (show ∀ z ∈ tableOf [(0, 18, 21, 22)], _ from (List.forall_mem_cons.mpr ⟨Or.inr ⟨by decide, "java/lang/IndexOutOfBoundsException", q2014, by decide +kernel⟩, (List.forall_mem_nil _)⟩)) (by decide) (by decide) q1743 q208 ?_)
      refine zr_sub [] rfl ?_
      exact w_X0_grant_b25 C0 ht hf
    have hf := zif_f c9 hf
    cases hf
def f_X0_grant (E : zE) (p0 : Nat) (p1 : Int32) (p2 : Int64) (p4 : Nat) (h : zH) : Option (Int32 × zH) := f_X0_grant_b0 E p0 p1 p2 p4 h
theorem m_X0_grant {l : Launch} (hst : l.stackTraces = false) {D : zD} {B0 : Nat} {E : zE} {p0 : Nat} {p1 : Int32} {p2 : Int64} {p4 : Nat} {h h' : zH} {r : Int32} (hf : f_X0_grant E p0 p1 p2 p4 h = some (r, h')) : zMet l yX0_grant (wsW_ yX0_grant cX0_grant 6 (Option.some Jvm.ClassFile.FieldType.int) [((0 : Nat), (18 : Nat), (21 : Nat), (22 : Nat)), ((0 : Nat), (18 : Nat), (25 : Nat), (13 : Nat))]) 12 199 D B0 E [.ref p0, .int p1, .long p2, .ref p4] h (zoI r) h' := by
  unfold f_X0_grant at hf
  refine zMet_ofH hst (by decide +kernel) rfl rfl (Nat.le_of_ble_eq_true rfl) (fun p e R s m below meth c C0 ht => ?_)
  show zW _ _ _ _ _ _ _ _ _ _ _ _ _ _ _ _ [(0, .ref p0), (1, .int p1), (2, .long p2), (4, .ref p4)] []
  exact w_X0_grant_b0 C0 ht hf
def f_X0_allowance_b11 (E : zE) (s0 : Nat) (h : zH) : Option (Int32 × zH) :=
  some ((1 : Int32), h)
theorem w_X0_allowance_b11 (C0 : zCx p l e R s m args below meth c D B0 4 "FranchiseLedgerLaw" cX0_allowance E 12 196 (Option.some Jvm.ClassFile.FieldType.int) "allowance") (ht : c.exceptionTable.toList = tableOf [((0 : Nat), (8 : Nat), (11 : Nat), (22 : Nat))]) {r : Int32} {h' : zH} {s0 : Nat} {h : zH} (hf : f_X0_allowance_b11 E s0 h = some (r, h')) : zW p l e R s m args below meth c D B0 4 (zEnd D B0 R below args s (zoI r) h') h 11 [] [.ref s0] := by
  unfold f_X0_allowance_b11 at hf
  refine zr_astore_n (i := 3) (lv' := [(3, .ref s0)]) C0 dX0_allowance_11 rfl (by decide) (by first | rfl | simp [zst1, zst2, zcat_rf]) ?_
  refine zr_iconst C0 (v := 1) dX0_allowance_12 (by decide) ?_
  refine zretW hf ?_
  exact zr_iret C0 (ty := .int) rfl rfl dX0_allowance_13 rfl
def f_X0_allowance_b0 (E : zE) (p0 : Nat) (p1 : Int32) (p2 : Nat) (h : zH) : Option (Int32 × zH) :=
  (cko h p0 0).bind fun _ =>
  bnd2 (f_X1_allowance E p0 p1 h) fun x4 h2 =>
  Sum.elim (fun x5 => (
    (sL h2 p2 (0 : Int32) x5).bind fun h7 =>
    some ((0 : Int32), h7)
  )) (fun q6 => (
    if q6.1 = 20 then (
      f_X0_allowance_b11 E q6.2 h2
    ) else (
    none
    )
  )) x4
theorem w_X0_allowance_b0 (C0 : zCx p l e R s m args below meth c D B0 4 "FranchiseLedgerLaw" cX0_allowance E 12 196 (Option.some Jvm.ClassFile.FieldType.int) "allowance") (ht : c.exceptionTable.toList = tableOf [((0 : Nat), (8 : Nat), (11 : Nat), (22 : Nat))]) {r : Int32} {h' : zH} {p0 : Nat} {p1 : Int32} {p2 : Nat} {h : zH} (hf : f_X0_allowance_b0 E p0 p1 p2 h = some (r, h')) : zW p l e R s m args below meth c D B0 4 (zEnd D B0 R below args s (zoI r) h') h 0 [(0, .ref p0), (1, .int p1), (2, .ref p2)] [] := by
  unfold f_X0_allowance_b0 at hf
  refine zr_aload_n C0 dX0_allowance_0 rfl 2 rfl ?_
  refine zr_iconst C0 (v := 0) dX0_allowance_1 (by decide) ?_
  refine zr_aload_n C0 dX0_allowance_2 rfl 0 rfl ?_
  refine zr_iload_n C0 dX0_allowance_3 rfl 1 rfl ?_
  obtain ⟨_, e1, hf⟩ := zbind hf
  obtain ⟨x4, h2, e3, hf⟩ := zbind2 hf
  rcases x4 with x5 | q6
  · have hf := zinl hf
    refine zr_callV_r C0 cv_X0_140_X1 rfl (zcko e1) (m_X1_allowance C0.2.2.2.2.2.2.1 e3) (by decide) (by decide) rfl rfl (Nat.le_of_ble_eq_true rfl) dX0_allowance_4 rfl ?_
    obtain ⟨h7, e8, hf⟩ := zbind hf
    refine zr_last C0 dX0_allowance_7 e8 ?_
    refine zr_goto C0 (tgt := 14) dX0_allowance_8 (by decide) ?_
    refine zr_iconst C0 (v := 0) dX0_allowance_14 (by decide) ?_
    refine zretW hf ?_
    exact zr_iret C0 (ty := .int) rfl rfl dX0_allowance_15 rfl
  · have hf := zinr hf
    rcases Decidable.em (q6.1 = 20) with c9 | c9
    · obtain ⟨q1, q2⟩ := q6
      subst c9
      have hf := zif_t rfl hf
      refine zr_callV_t C0 cv_X0_140_X1 rfl (zcko e1) (m_X1_allowance C0.2.2.2.2.2.2.1 e3) (by decide) (by decide) rfl rfl (Nat.le_of_ble_eq_true rfl) dX0_allowance_4 (zr_catch C0 (tableOf []) ⟨0, 8, 11, 22⟩ (tableOf []) (by rw [ht]; rfl) rfl (fun z hz => by cases hz) (by decide) (by decide) q2014 q787 ?_)
      refine zr_sub [] rfl ?_
      exact w_X0_allowance_b11 C0 ht hf
    have hf := zif_f c9 hf
    cases hf
def f_X0_allowance (E : zE) (p0 : Nat) (p1 : Int32) (p2 : Nat) (h : zH) : Option (Int32 × zH) := f_X0_allowance_b0 E p0 p1 p2 h
theorem m_X0_allowance {l : Launch} (hst : l.stackTraces = false) {D : zD} {B0 : Nat} {E : zE} {p0 : Nat} {p1 : Int32} {p2 : Nat} {h h' : zH} {r : Int32} (hf : f_X0_allowance E p0 p1 p2 h = some (r, h')) : zMet l yX0_allowance (wsW_ yX0_allowance cX0_allowance 4 (Option.some Jvm.ClassFile.FieldType.int) [((0 : Nat), (8 : Nat), (11 : Nat), (22 : Nat))]) 12 196 D B0 E [.ref p0, .int p1, .ref p2] h (zoI r) h' := by
  unfold f_X0_allowance at hf
  refine zMet_ofH hst (by decide +kernel) rfl rfl (Nat.le_of_ble_eq_true rfl) (fun p e R s m below meth c C0 ht => ?_)
  show zW _ _ _ _ _ _ _ _ _ _ _ _ _ _ _ _ [(0, .ref p0), (1, .int p1), (2, .ref p2)] []
  exact w_X0_allowance_b0 C0 ht hf
def f_X0_nationalShare_b11 (E : zE) (s0 : Nat) (h : zH) : Option (Int32 × zH) :=
  some ((1 : Int32), h)
theorem w_X0_nationalShare_b11 (C0 : zCx p l e R s m args below meth c D B0 4 "FranchiseLedgerLaw" cX0_nationalShare E 11 202 (Option.some Jvm.ClassFile.FieldType.int) "nationalShare") (ht : c.exceptionTable.toList = tableOf [((0 : Nat), (8 : Nat), (11 : Nat), (22 : Nat))]) {r : Int32} {h' : zH} {s0 : Nat} {h : zH} (hf : f_X0_nationalShare_b11 E s0 h = some (r, h')) : zW p l e R s m args below meth c D B0 4 (zEnd D B0 R below args s (zoI r) h') h 11 [] [.ref s0] := by
  unfold f_X0_nationalShare_b11 at hf
  refine zr_astore_n (i := 3) (lv' := [(3, .ref s0)]) C0 dX0_nationalShare_11 rfl (by decide) (by first | rfl | simp [zst1, zst2, zcat_rf]) ?_
  refine zr_iconst C0 (v := 1) dX0_nationalShare_12 (by decide) ?_
  refine zretW hf ?_
  exact zr_iret C0 (ty := .int) rfl rfl dX0_nationalShare_13 rfl
def f_X0_nationalShare_b0 (E : zE) (p0 : Nat) (p1 : Int32) (p2 : Nat) (h : zH) : Option (Int32 × zH) :=
  (cko h p0 0).bind fun _ =>
  bnd2 (f_X1_nationalShare E p0 p1 h) fun x4 h2 =>
  Sum.elim (fun x5 => (
    (sL h2 p2 (0 : Int32) x5).bind fun h7 =>
    some ((0 : Int32), h7)
  )) (fun q6 => (
    if q6.1 = 20 then (
      f_X0_nationalShare_b11 E q6.2 h2
    ) else (
    none
    )
  )) x4
theorem w_X0_nationalShare_b0 (C0 : zCx p l e R s m args below meth c D B0 4 "FranchiseLedgerLaw" cX0_nationalShare E 11 202 (Option.some Jvm.ClassFile.FieldType.int) "nationalShare") (ht : c.exceptionTable.toList = tableOf [((0 : Nat), (8 : Nat), (11 : Nat), (22 : Nat))]) {r : Int32} {h' : zH} {p0 : Nat} {p1 : Int32} {p2 : Nat} {h : zH} (hf : f_X0_nationalShare_b0 E p0 p1 p2 h = some (r, h')) : zW p l e R s m args below meth c D B0 4 (zEnd D B0 R below args s (zoI r) h') h 0 [(0, .ref p0), (1, .int p1), (2, .ref p2)] [] := by
  unfold f_X0_nationalShare_b0 at hf
  refine zr_aload_n C0 dX0_nationalShare_0 rfl 2 rfl ?_
  refine zr_iconst C0 (v := 0) dX0_nationalShare_1 (by decide) ?_
  refine zr_aload_n C0 dX0_nationalShare_2 rfl 0 rfl ?_
  refine zr_iload_n C0 dX0_nationalShare_3 rfl 1 rfl ?_
  obtain ⟨_, e1, hf⟩ := zbind hf
  obtain ⟨x4, h2, e3, hf⟩ := zbind2 hf
  rcases x4 with x5 | q6
  · have hf := zinl hf
    refine zr_callV_r C0 cv_X0_143_X1 rfl (zcko e1) (m_X1_nationalShare C0.2.2.2.2.2.2.1 e3) (by decide) (by decide) rfl rfl (Nat.le_of_ble_eq_true rfl) dX0_nationalShare_4 rfl ?_
    obtain ⟨h7, e8, hf⟩ := zbind hf
    refine zr_last C0 dX0_nationalShare_7 e8 ?_
    refine zr_goto C0 (tgt := 14) dX0_nationalShare_8 (by decide) ?_
    refine zr_iconst C0 (v := 0) dX0_nationalShare_14 (by decide) ?_
    refine zretW hf ?_
    exact zr_iret C0 (ty := .int) rfl rfl dX0_nationalShare_15 rfl
  · have hf := zinr hf
    rcases Decidable.em (q6.1 = 20) with c9 | c9
    · obtain ⟨q1, q2⟩ := q6
      subst c9
      have hf := zif_t rfl hf
      refine zr_callV_t C0 cv_X0_143_X1 rfl (zcko e1) (m_X1_nationalShare C0.2.2.2.2.2.2.1 e3) (by decide) (by decide) rfl rfl (Nat.le_of_ble_eq_true rfl) dX0_nationalShare_4 (zr_catch C0 (tableOf []) ⟨0, 8, 11, 22⟩ (tableOf []) (by rw [ht]; rfl) rfl (fun z hz => by cases hz) (by decide) (by decide) q2014 q787 ?_)
      refine zr_sub [] rfl ?_
      exact w_X0_nationalShare_b11 C0 ht hf
    have hf := zif_f c9 hf
    cases hf
def f_X0_nationalShare (E : zE) (p0 : Nat) (p1 : Int32) (p2 : Nat) (h : zH) : Option (Int32 × zH) := f_X0_nationalShare_b0 E p0 p1 p2 h
theorem m_X0_nationalShare {l : Launch} (hst : l.stackTraces = false) {D : zD} {B0 : Nat} {E : zE} {p0 : Nat} {p1 : Int32} {p2 : Nat} {h h' : zH} {r : Int32} (hf : f_X0_nationalShare E p0 p1 p2 h = some (r, h')) : zMet l yX0_nationalShare (wsW_ yX0_nationalShare cX0_nationalShare 4 (Option.some Jvm.ClassFile.FieldType.int) [((0 : Nat), (8 : Nat), (11 : Nat), (22 : Nat))]) 11 202 D B0 E [.ref p0, .int p1, .ref p2] h (zoI r) h' := by
  unfold f_X0_nationalShare at hf
  refine zMet_ofH hst (by decide +kernel) rfl rfl (Nat.le_of_ble_eq_true rfl) (fun p e R s m below meth c C0 ht => ?_)
  show zW _ _ _ _ _ _ _ _ _ _ _ _ _ _ _ _ [(0, .ref p0), (1, .int p1), (2, .ref p2)] []
  exact w_X0_nationalShare_b0 C0 ht hf
def f_X0_requestTransfer_b22 (E : zE) (s0 : Nat) (h : zH) : Option (Int32 × zH) :=
  some ((1 : Int32), h)
theorem w_X0_requestTransfer_b22 (C0 : zCx p l e R s m args below meth c D B0 7 "FranchiseLedgerLaw" cX0_requestTransfer E 12 200 (Option.some Jvm.ClassFile.FieldType.int) "requestTransfer") (ht : c.exceptionTable.toList = tableOf [((0 : Nat), (19 : Nat), (22 : Nat), (22 : Nat)), ((0 : Nat), (19 : Nat), (26 : Nat), (13 : Nat))]) {r : Int32} {h' : zH} {s0 : Nat} {h : zH} (hf : f_X0_requestTransfer_b22 E s0 h = some (r, h')) : zW p l e R s m args below meth c D B0 7 (zEnd D B0 R below args s (zoI r) h') h 22 [] [.ref s0] := by
  unfold f_X0_requestTransfer_b22 at hf
  refine zr_astore (i := 6) (lv' := [(6, .ref s0)]) C0 dX0_requestTransfer_22 (by decide) (by first | rfl | simp [zst1, zst2, zcat_rf]) ?_
  refine zr_iconst C0 (v := 1) dX0_requestTransfer_24 (by decide) ?_
  refine zretW hf ?_
  exact zr_iret C0 (ty := .int) rfl rfl dX0_requestTransfer_25 rfl
def f_X0_requestTransfer_b26 (E : zE) (s0 : Nat) (h : zH) : Option (Int32 × zH) :=
  some ((2 : Int32), h)
theorem w_X0_requestTransfer_b26 (C0 : zCx p l e R s m args below meth c D B0 7 "FranchiseLedgerLaw" cX0_requestTransfer E 12 200 (Option.some Jvm.ClassFile.FieldType.int) "requestTransfer") (ht : c.exceptionTable.toList = tableOf [((0 : Nat), (19 : Nat), (22 : Nat), (22 : Nat)), ((0 : Nat), (19 : Nat), (26 : Nat), (13 : Nat))]) {r : Int32} {h' : zH} {s0 : Nat} {h : zH} (hf : f_X0_requestTransfer_b26 E s0 h = some (r, h')) : zW p l e R s m args below meth c D B0 7 (zEnd D B0 R below args s (zoI r) h') h 26 [] [.ref s0] := by
  unfold f_X0_requestTransfer_b26 at hf
  refine zr_astore (i := 6) (lv' := [(6, .ref s0)]) C0 dX0_requestTransfer_26 (by decide) (by first | rfl | simp [zst1, zst2, zcat_rf]) ?_
  refine zr_iconst C0 (v := 2) dX0_requestTransfer_28 (by decide) ?_
  refine zretW hf ?_
  exact zr_iret C0 (ty := .int) rfl rfl dX0_requestTransfer_29 rfl
def f_X0_requestTransfer_b18 (E : zE) (s0 : Nat) (s1 : Int32) (s2 : Int64) (h : zH) : Option (Int32 × zH) :=
  (sL h s0 s1 s2).bind fun h1 =>
  some ((0 : Int32), h1)
theorem w_X0_requestTransfer_b18 (C0 : zCx p l e R s m args below meth c D B0 7 "FranchiseLedgerLaw" cX0_requestTransfer E 12 200 (Option.some Jvm.ClassFile.FieldType.int) "requestTransfer") (ht : c.exceptionTable.toList = tableOf [((0 : Nat), (19 : Nat), (22 : Nat), (22 : Nat)), ((0 : Nat), (19 : Nat), (26 : Nat), (13 : Nat))]) {r : Int32} {h' : zH} {s0 : Nat} {s1 : Int32} {s2 : Int64} {h : zH} (hf : f_X0_requestTransfer_b18 E s0 s1 s2 h = some (r, h')) : zW p l e R s m args below meth c D B0 7 (zEnd D B0 R below args s (zoI r) h') h 18 [] [.long s2, .int s1, .ref s0] := by
  unfold f_X0_requestTransfer_b18 at hf
  obtain ⟨h1, e2, hf⟩ := zbind hf
  refine zr_last C0 dX0_requestTransfer_18 e2 ?_
  refine zr_goto C0 (tgt := 30) dX0_requestTransfer_19 (by decide) ?_
  refine zr_iconst C0 (v := 0) dX0_requestTransfer_30 (by decide) ?_
  refine zretW hf ?_
  exact zr_iret C0 (ty := .int) rfl rfl dX0_requestTransfer_31 rfl
def f_X0_requestTransfer_b0 (E : zE) (p0 : Nat) (p1 : Int32) (p2 : Int32) (p3 : Int64) (p5 : Nat) (h : zH) : Option (Int32 × zH) :=
  (cko h p0 0).bind fun _ =>
  bnd2 (f_X1_requestTransfer E p0 p1 p2 p3 h) fun x4 h2 =>
  Sum.elim (fun x5 => (
    if x5 = 0 then (
      f_X0_requestTransfer_b18 E p5 (0 : Int32) (0 : Int64) h2
    ) else (
      f_X0_requestTransfer_b18 E p5 (0 : Int32) (1 : Int64) h2
    )
  )) (fun q6 => (
    if q6.1 = 20 then (
      f_X0_requestTransfer_b22 E q6.2 h2
    ) else (
    if q6.1 = 21 then (
      f_X0_requestTransfer_b26 E q6.2 h2
    ) else (
    none
    ))
  )) x4
theorem w_X0_requestTransfer_b0 (C0 : zCx p l e R s m args below meth c D B0 7 "FranchiseLedgerLaw" cX0_requestTransfer E 12 200 (Option.some Jvm.ClassFile.FieldType.int) "requestTransfer") (ht : c.exceptionTable.toList = tableOf [((0 : Nat), (19 : Nat), (22 : Nat), (22 : Nat)), ((0 : Nat), (19 : Nat), (26 : Nat), (13 : Nat))]) {r : Int32} {h' : zH} {p0 : Nat} {p1 : Int32} {p2 : Int32} {p3 : Int64} {p5 : Nat} {h : zH} (hf : f_X0_requestTransfer_b0 E p0 p1 p2 p3 p5 h = some (r, h')) : zW p l e R s m args below meth c D B0 7 (zEnd D B0 R below args s (zoI r) h') h 0 [(0, .ref p0), (1, .int p1), (2, .int p2), (3, .long p3), (5, .ref p5)] [] := by
  unfold f_X0_requestTransfer_b0 at hf
  refine zr_aload C0 dX0_requestTransfer_0 4 rfl ?_
  refine zr_iconst C0 (v := 0) dX0_requestTransfer_2 (by decide) ?_
  refine zr_aload_n C0 dX0_requestTransfer_3 rfl 0 rfl ?_
  refine zr_iload_n C0 dX0_requestTransfer_4 rfl 1 rfl ?_
  refine zr_iload_n C0 dX0_requestTransfer_5 rfl 2 rfl ?_
  refine zr_lload_n C0 dX0_requestTransfer_6 rfl 3 rfl ?_
  obtain ⟨_, e1, hf⟩ := zbind hf
  obtain ⟨x4, h2, e3, hf⟩ := zbind2 hf
  rcases x4 with x5 | q6
  · have hf := zinl hf
    refine zr_callV_r C0 cv_X0_146_X1 rfl (zcko e1) (m_X1_requestTransfer C0.2.2.2.2.2.2.1 e3) (by decide) (by decide) rfl rfl (Nat.le_of_ble_eq_true rfl) dX0_requestTransfer_7 rfl ?_
    refine zr_if_eq C0 (tgt := 17) dX0_requestTransfer_10 (by decide) (fun c7 => ?_) (fun c7 => ?_)
    · have hf := zif_t c7 hf
      refine zr_lconst C0 (v := 0) dX0_requestTransfer_17 (by decide) ?_
      refine zr_sub [] rfl ?_
      exact w_X0_requestTransfer_b18 C0 ht hf
    · have hf := zif_f c7 hf
      refine zr_lconst C0 (v := 1) dX0_requestTransfer_13 (by decide) ?_
      refine zr_goto C0 (tgt := 18) dX0_requestTransfer_14 (by decide) ?_
      refine zr_sub [] rfl ?_
      exact w_X0_requestTransfer_b18 C0 ht hf
  · have hf := zinr hf
    rcases Decidable.em (q6.1 = 20) with c8 | c8
    · obtain ⟨q1, q2⟩ := q6
      subst c8
      have hf := zif_t rfl hf
      refine zr_callV_t C0 cv_X0_146_X1 rfl (zcko e1) (m_X1_requestTransfer C0.2.2.2.2.2.2.1 e3) (by decide) (by decide) rfl rfl (Nat.le_of_ble_eq_true rfl) dX0_requestTransfer_7 (zr_catch C0 (tableOf []) ⟨0, 19, 22, 22⟩ (tableOf [(0, 19, 26, 13)]) (by rw [ht]; rfl) rfl (fun z hz => by cases hz) (by decide) (by decide) q2014 q787 ?_)
      refine zr_sub [] rfl ?_
      exact w_X0_requestTransfer_b22 C0 ht hf
    have hf := zif_f c8 hf
    rcases Decidable.em (q6.1 = 21) with c9 | c9
    · obtain ⟨q1, q2⟩ := q6
      subst c9
      have hf := zif_t rfl hf
      refine zr_callV_t C0 cv_X0_146_X1 rfl (zcko e1) (m_X1_requestTransfer C0.2.2.2.2.2.2.1 e3) (by decide) (by decide) rfl rfl (Nat.le_of_ble_eq_true rfl) dX0_requestTransfer_7 (zr_catch C0 (tableOf [(0, 19, 22, 22)]) ⟨0, 19, 26, 13⟩ (tableOf []) (by rw [ht]; rfl) rfl (show ∀ z ∈ tableOf [(0, 19, 22, 22)], _ from (List.forall_mem_cons.mpr ⟨Or.inr ⟨by decide, "java/lang/IndexOutOfBoundsException", q2014, by decide +kernel⟩, (List.forall_mem_nil _)⟩)) (by decide) (by decide) q1743 q208 ?_)
      refine zr_sub [] rfl ?_
      exact w_X0_requestTransfer_b26 C0 ht hf
    have hf := zif_f c9 hf
    cases hf
def f_X0_requestTransfer (E : zE) (p0 : Nat) (p1 : Int32) (p2 : Int32) (p3 : Int64) (p5 : Nat) (h : zH) : Option (Int32 × zH) := f_X0_requestTransfer_b0 E p0 p1 p2 p3 p5 h
theorem m_X0_requestTransfer {l : Launch} (hst : l.stackTraces = false) {D : zD} {B0 : Nat} {E : zE} {p0 : Nat} {p1 : Int32} {p2 : Int32} {p3 : Int64} {p5 : Nat} {h h' : zH} {r : Int32} (hf : f_X0_requestTransfer E p0 p1 p2 p3 p5 h = some (r, h')) : zMet l yX0_requestTransfer (wsW_ yX0_requestTransfer cX0_requestTransfer 7 (Option.some Jvm.ClassFile.FieldType.int) [((0 : Nat), (19 : Nat), (22 : Nat), (22 : Nat)), ((0 : Nat), (19 : Nat), (26 : Nat), (13 : Nat))]) 12 200 D B0 E [.ref p0, .int p1, .int p2, .long p3, .ref p5] h (zoI r) h' := by
  unfold f_X0_requestTransfer at hf
  refine zMet_ofH hst (by decide +kernel) rfl rfl (Nat.le_of_ble_eq_true rfl) (fun p e R s m below meth c C0 ht => ?_)
  show zW _ _ _ _ _ _ _ _ _ _ _ _ _ _ _ _ [(0, .ref p0), (1, .int p1), (2, .int p2), (3, .long p3), (5, .ref p5)] []
  exact w_X0_requestTransfer_b0 C0 ht hf
def f_X0_vote_b15 (E : zE) (s0 : Nat) (h : zH) : Option (Int32 × zH) :=
  some ((1 : Int32), h)
theorem w_X0_vote_b15 (C0 : zCx p l e R s m args below meth c D B0 6 "FranchiseLedgerLaw" cX0_vote E 12 199 (Option.some Jvm.ClassFile.FieldType.int) "vote") (ht : c.exceptionTable.toList = tableOf [((0 : Nat), (12 : Nat), (15 : Nat), (22 : Nat)), ((0 : Nat), (12 : Nat), (19 : Nat), (13 : Nat))]) {r : Int32} {h' : zH} {s0 : Nat} {h : zH} (hf : f_X0_vote_b15 E s0 h = some (r, h')) : zW p l e R s m args below meth c D B0 6 (zEnd D B0 R below args s (zoI r) h') h 15 [] [.ref s0] := by
  unfold f_X0_vote_b15 at hf
  refine zr_astore (i := 5) (lv' := [(5, .ref s0)]) C0 dX0_vote_15 (by decide) (by first | rfl | simp [zst1, zst2, zcat_rf]) ?_
  refine zr_iconst C0 (v := 1) dX0_vote_17 (by decide) ?_
  refine zretW hf ?_
  exact zr_iret C0 (ty := .int) rfl rfl dX0_vote_18 rfl
def f_X0_vote_b19 (E : zE) (s0 : Nat) (h : zH) : Option (Int32 × zH) :=
  some ((2 : Int32), h)
theorem w_X0_vote_b19 (C0 : zCx p l e R s m args below meth c D B0 6 "FranchiseLedgerLaw" cX0_vote E 12 199 (Option.some Jvm.ClassFile.FieldType.int) "vote") (ht : c.exceptionTable.toList = tableOf [((0 : Nat), (12 : Nat), (15 : Nat), (22 : Nat)), ((0 : Nat), (12 : Nat), (19 : Nat), (13 : Nat))]) {r : Int32} {h' : zH} {s0 : Nat} {h : zH} (hf : f_X0_vote_b19 E s0 h = some (r, h')) : zW p l e R s m args below meth c D B0 6 (zEnd D B0 R below args s (zoI r) h') h 19 [] [.ref s0] := by
  unfold f_X0_vote_b19 at hf
  refine zr_astore (i := 5) (lv' := [(5, .ref s0)]) C0 dX0_vote_19 (by decide) (by first | rfl | simp [zst1, zst2, zcat_rf]) ?_
  refine zr_iconst C0 (v := 2) dX0_vote_21 (by decide) ?_
  refine zretW hf ?_
  exact zr_iret C0 (ty := .int) rfl rfl dX0_vote_22 rfl
def f_X0_vote_b0 (E : zE) (p0 : Nat) (p1 : Int32) (p2 : Int32) (p3 : Int32) (p4 : Nat) (h : zH) : Option (Int32 × zH) :=
  (cko h p0 0).bind fun _ =>
  bnd2 (f_X1_vote E p0 p1 p2 p3 h) fun x4 h2 =>
  Sum.elim (fun x5 => (
    (sL h2 p4 (0 : Int32) (x5.toInt64)).bind fun h7 =>
    some ((0 : Int32), h7)
  )) (fun q6 => (
    if q6.1 = 20 then (
      f_X0_vote_b15 E q6.2 h2
    ) else (
    if q6.1 = 21 then (
      f_X0_vote_b19 E q6.2 h2
    ) else (
    none
    ))
  )) x4
theorem w_X0_vote_b0 (C0 : zCx p l e R s m args below meth c D B0 6 "FranchiseLedgerLaw" cX0_vote E 12 199 (Option.some Jvm.ClassFile.FieldType.int) "vote") (ht : c.exceptionTable.toList = tableOf [((0 : Nat), (12 : Nat), (15 : Nat), (22 : Nat)), ((0 : Nat), (12 : Nat), (19 : Nat), (13 : Nat))]) {r : Int32} {h' : zH} {p0 : Nat} {p1 : Int32} {p2 : Int32} {p3 : Int32} {p4 : Nat} {h : zH} (hf : f_X0_vote_b0 E p0 p1 p2 p3 p4 h = some (r, h')) : zW p l e R s m args below meth c D B0 6 (zEnd D B0 R below args s (zoI r) h') h 0 [(0, .ref p0), (1, .int p1), (2, .int p2), (3, .int p3), (4, .ref p4)] [] := by
  unfold f_X0_vote_b0 at hf
  refine zr_aload C0 dX0_vote_0 4 rfl ?_
  refine zr_iconst C0 (v := 0) dX0_vote_2 (by decide) ?_
  refine zr_aload_n C0 dX0_vote_3 rfl 0 rfl ?_
  refine zr_iload_n C0 dX0_vote_4 rfl 1 rfl ?_
  refine zr_iload_n C0 dX0_vote_5 rfl 2 rfl ?_
  refine zr_iload_n C0 dX0_vote_6 rfl 3 rfl ?_
  obtain ⟨_, e1, hf⟩ := zbind hf
  obtain ⟨x4, h2, e3, hf⟩ := zbind2 hf
  rcases x4 with x5 | q6
  · have hf := zinl hf
    refine zr_callV_r C0 cv_X0_150_X1 rfl (zcko e1) (m_X1_vote C0.2.2.2.2.2.2.1 e3) (by decide) (by decide) rfl rfl (Nat.le_of_ble_eq_true rfl) dX0_vote_7 rfl ?_
    refine zr_i2l C0 dX0_vote_10 ?_
    obtain ⟨h7, e8, hf⟩ := zbind hf
    refine zr_last C0 dX0_vote_11 e8 ?_
    refine zr_goto C0 (tgt := 23) dX0_vote_12 (by decide) ?_
    refine zr_iconst C0 (v := 0) dX0_vote_23 (by decide) ?_
    refine zretW hf ?_
    exact zr_iret C0 (ty := .int) rfl rfl dX0_vote_24 rfl
  · have hf := zinr hf
    rcases Decidable.em (q6.1 = 20) with c9 | c9
    · obtain ⟨q1, q2⟩ := q6
      subst c9
      have hf := zif_t rfl hf
      refine zr_callV_t C0 cv_X0_150_X1 rfl (zcko e1) (m_X1_vote C0.2.2.2.2.2.2.1 e3) (by decide) (by decide) rfl rfl (Nat.le_of_ble_eq_true rfl) dX0_vote_7 (zr_catch C0 (tableOf []) ⟨0, 12, 15, 22⟩ (tableOf [(0, 12, 19, 13)]) (by rw [ht]; rfl) rfl (fun z hz => by cases hz) (by decide) (by decide) q2014 q787 ?_)
      refine zr_sub [] rfl ?_
      exact w_X0_vote_b15 C0 ht hf
    have hf := zif_f c9 hf
    rcases Decidable.em (q6.1 = 21) with c10 | c10
    · obtain ⟨q1, q2⟩ := q6
      subst c10
      have hf := zif_t rfl hf
      refine zr_callV_t C0 cv_X0_150_X1 rfl (zcko e1) (m_X1_vote C0.2.2.2.2.2.2.1 e3) (by decide) (by decide) rfl rfl (Nat.le_of_ble_eq_true rfl) dX0_vote_7 (zr_catch C0 (tableOf [(0, 12, 15, 22)]) ⟨0, 12, 19, 13⟩ (tableOf []) (by rw [ht]; rfl) rfl (show ∀ z ∈ tableOf [(0, 12, 15, 22)], _ from (List.forall_mem_cons.mpr ⟨Or.inr ⟨by decide, "java/lang/IndexOutOfBoundsException", q2014, by decide +kernel⟩, (List.forall_mem_nil _)⟩)) (by decide) (by decide) q1743 q208 ?_)
      refine zr_sub [] rfl ?_
      exact w_X0_vote_b19 C0 ht hf
    have hf := zif_f c10 hf
    cases hf
def f_X0_vote (E : zE) (p0 : Nat) (p1 : Int32) (p2 : Int32) (p3 : Int32) (p4 : Nat) (h : zH) : Option (Int32 × zH) := f_X0_vote_b0 E p0 p1 p2 p3 p4 h
theorem m_X0_vote {l : Launch} (hst : l.stackTraces = false) {D : zD} {B0 : Nat} {E : zE} {p0 : Nat} {p1 : Int32} {p2 : Int32} {p3 : Int32} {p4 : Nat} {h h' : zH} {r : Int32} (hf : f_X0_vote E p0 p1 p2 p3 p4 h = some (r, h')) : zMet l yX0_vote (wsW_ yX0_vote cX0_vote 6 (Option.some Jvm.ClassFile.FieldType.int) [((0 : Nat), (12 : Nat), (15 : Nat), (22 : Nat)), ((0 : Nat), (12 : Nat), (19 : Nat), (13 : Nat))]) 12 199 D B0 E [.ref p0, .int p1, .int p2, .int p3, .ref p4] h (zoI r) h' := by
  unfold f_X0_vote at hf
  refine zMet_ofH hst (by decide +kernel) rfl rfl (Nat.le_of_ble_eq_true rfl) (fun p e R s m below meth c C0 ht => ?_)
  show zW _ _ _ _ _ _ _ _ _ _ _ _ _ _ _ _ [(0, .ref p0), (1, .int p1), (2, .int p2), (3, .int p3), (4, .ref p4)] []
  exact w_X0_vote_b0 C0 ht hf
def f_X0_exercise_b19 (E : zE) (s0 : Nat) (h : zH) : Option (Int32 × zH) :=
  some ((1 : Int32), h)
theorem w_X0_exercise_b19 (C0 : zCx p l e R s m args below meth c D B0 4 "FranchiseLedgerLaw" cX0_exercise E 12 197 (Option.some Jvm.ClassFile.FieldType.int) "exercise") (ht : c.exceptionTable.toList = tableOf [((0 : Nat), (16 : Nat), (19 : Nat), (22 : Nat))]) {r : Int32} {h' : zH} {s0 : Nat} {h : zH} (hf : f_X0_exercise_b19 E s0 h = some (r, h')) : zW p l e R s m args below meth c D B0 4 (zEnd D B0 R below args s (zoI r) h') h 19 [] [.ref s0] := by
  unfold f_X0_exercise_b19 at hf
  refine zr_astore_n (i := 3) (lv' := [(3, .ref s0)]) C0 dX0_exercise_19 rfl (by decide) (by first | rfl | simp [zst1, zst2, zcat_rf]) ?_
  refine zr_iconst C0 (v := 1) dX0_exercise_20 (by decide) ?_
  refine zretW hf ?_
  exact zr_iret C0 (ty := .int) rfl rfl dX0_exercise_21 rfl
def f_X0_exercise_b15 (E : zE) (s0 : Nat) (s1 : Int32) (s2 : Int64) (h : zH) : Option (Int32 × zH) :=
  (sL h s0 s1 s2).bind fun h1 =>
  some ((0 : Int32), h1)
theorem w_X0_exercise_b15 (C0 : zCx p l e R s m args below meth c D B0 4 "FranchiseLedgerLaw" cX0_exercise E 12 197 (Option.some Jvm.ClassFile.FieldType.int) "exercise") (ht : c.exceptionTable.toList = tableOf [((0 : Nat), (16 : Nat), (19 : Nat), (22 : Nat))]) {r : Int32} {h' : zH} {s0 : Nat} {s1 : Int32} {s2 : Int64} {h : zH} (hf : f_X0_exercise_b15 E s0 s1 s2 h = some (r, h')) : zW p l e R s m args below meth c D B0 4 (zEnd D B0 R below args s (zoI r) h') h 15 [] [.long s2, .int s1, .ref s0] := by
  unfold f_X0_exercise_b15 at hf
  obtain ⟨h1, e2, hf⟩ := zbind hf
  refine zr_last C0 dX0_exercise_15 e2 ?_
  refine zr_goto C0 (tgt := 22) dX0_exercise_16 (by decide) ?_
  refine zr_iconst C0 (v := 0) dX0_exercise_22 (by decide) ?_
  refine zretW hf ?_
  exact zr_iret C0 (ty := .int) rfl rfl dX0_exercise_23 rfl
def f_X0_exercise_b0 (E : zE) (p0 : Nat) (p1 : Int32) (p2 : Nat) (h : zH) : Option (Int32 × zH) :=
  (cko h p0 0).bind fun _ =>
  bnd2 (f_X1_exercise E p0 p1 h) fun x4 h2 =>
  Sum.elim (fun x5 => (
    if x5 = 0 then (
      f_X0_exercise_b15 E p2 (0 : Int32) (0 : Int64) h2
    ) else (
      f_X0_exercise_b15 E p2 (0 : Int32) (1 : Int64) h2
    )
  )) (fun q6 => (
    if q6.1 = 20 then (
      f_X0_exercise_b19 E q6.2 h2
    ) else (
    none
    )
  )) x4
theorem w_X0_exercise_b0 (C0 : zCx p l e R s m args below meth c D B0 4 "FranchiseLedgerLaw" cX0_exercise E 12 197 (Option.some Jvm.ClassFile.FieldType.int) "exercise") (ht : c.exceptionTable.toList = tableOf [((0 : Nat), (16 : Nat), (19 : Nat), (22 : Nat))]) {r : Int32} {h' : zH} {p0 : Nat} {p1 : Int32} {p2 : Nat} {h : zH} (hf : f_X0_exercise_b0 E p0 p1 p2 h = some (r, h')) : zW p l e R s m args below meth c D B0 4 (zEnd D B0 R below args s (zoI r) h') h 0 [(0, .ref p0), (1, .int p1), (2, .ref p2)] [] := by
  unfold f_X0_exercise_b0 at hf
  refine zr_aload_n C0 dX0_exercise_0 rfl 2 rfl ?_
  refine zr_iconst C0 (v := 0) dX0_exercise_1 (by decide) ?_
  refine zr_aload_n C0 dX0_exercise_2 rfl 0 rfl ?_
  refine zr_iload_n C0 dX0_exercise_3 rfl 1 rfl ?_
  obtain ⟨_, e1, hf⟩ := zbind hf
  obtain ⟨x4, h2, e3, hf⟩ := zbind2 hf
  rcases x4 with x5 | q6
  · have hf := zinl hf
    refine zr_callV_r C0 cv_X0_154_X1 rfl (zcko e1) (m_X1_exercise C0.2.2.2.2.2.2.1 e3) (by decide) (by decide) rfl rfl (Nat.le_of_ble_eq_true rfl) dX0_exercise_4 rfl ?_
    refine zr_if_eq C0 (tgt := 14) dX0_exercise_7 (by decide) (fun c7 => ?_) (fun c7 => ?_)
    · have hf := zif_t c7 hf
      refine zr_lconst C0 (v := 0) dX0_exercise_14 (by decide) ?_
      refine zr_sub [] rfl ?_
      exact w_X0_exercise_b15 C0 ht hf
    · have hf := zif_f c7 hf
      refine zr_lconst C0 (v := 1) dX0_exercise_10 (by decide) ?_
      refine zr_goto C0 (tgt := 15) dX0_exercise_11 (by decide) ?_
      refine zr_sub [] rfl ?_
      exact w_X0_exercise_b15 C0 ht hf
  · have hf := zinr hf
    rcases Decidable.em (q6.1 = 20) with c8 | c8
    · obtain ⟨q1, q2⟩ := q6
      subst c8
      have hf := zif_t rfl hf
      refine zr_callV_t C0 cv_X0_154_X1 rfl (zcko e1) (m_X1_exercise C0.2.2.2.2.2.2.1 e3) (by decide) (by decide) rfl rfl (Nat.le_of_ble_eq_true rfl) dX0_exercise_4 (zr_catch C0 (tableOf []) ⟨0, 16, 19, 22⟩ (tableOf []) (by rw [ht]; rfl) rfl (fun z hz => by cases hz) (by decide) (by decide) q2014 q787 ?_)
      refine zr_sub [] rfl ?_
      exact w_X0_exercise_b19 C0 ht hf
    have hf := zif_f c8 hf
    cases hf
def f_X0_exercise (E : zE) (p0 : Nat) (p1 : Int32) (p2 : Nat) (h : zH) : Option (Int32 × zH) := f_X0_exercise_b0 E p0 p1 p2 h
theorem m_X0_exercise {l : Launch} (hst : l.stackTraces = false) {D : zD} {B0 : Nat} {E : zE} {p0 : Nat} {p1 : Int32} {p2 : Nat} {h h' : zH} {r : Int32} (hf : f_X0_exercise E p0 p1 p2 h = some (r, h')) : zMet l yX0_exercise (wsW_ yX0_exercise cX0_exercise 4 (Option.some Jvm.ClassFile.FieldType.int) [((0 : Nat), (16 : Nat), (19 : Nat), (22 : Nat))]) 12 197 D B0 E [.ref p0, .int p1, .ref p2] h (zoI r) h' := by
  unfold f_X0_exercise at hf
  refine zMet_ofH hst (by decide +kernel) rfl rfl (Nat.le_of_ble_eq_true rfl) (fun p e R s m below meth c C0 ht => ?_)
  show zW _ _ _ _ _ _ _ _ _ _ _ _ _ _ _ _ [(0, .ref p0), (1, .int p1), (2, .ref p2)] []
  exact w_X0_exercise_b0 C0 ht hf
def f_X0_withdraw_b19 (E : zE) (s0 : Nat) (h : zH) : Option (Int32 × zH) :=
  some ((1 : Int32), h)
theorem w_X0_withdraw_b19 (C0 : zCx p l e R s m args below meth c D B0 4 "FranchiseLedgerLaw" cX0_withdraw E 12 197 (Option.some Jvm.ClassFile.FieldType.int) "withdraw") (ht : c.exceptionTable.toList = tableOf [((0 : Nat), (16 : Nat), (19 : Nat), (22 : Nat))]) {r : Int32} {h' : zH} {s0 : Nat} {h : zH} (hf : f_X0_withdraw_b19 E s0 h = some (r, h')) : zW p l e R s m args below meth c D B0 4 (zEnd D B0 R below args s (zoI r) h') h 19 [] [.ref s0] := by
  unfold f_X0_withdraw_b19 at hf
  refine zr_astore_n (i := 3) (lv' := [(3, .ref s0)]) C0 dX0_withdraw_19 rfl (by decide) (by first | rfl | simp [zst1, zst2, zcat_rf]) ?_
  refine zr_iconst C0 (v := 1) dX0_withdraw_20 (by decide) ?_
  refine zretW hf ?_
  exact zr_iret C0 (ty := .int) rfl rfl dX0_withdraw_21 rfl
def f_X0_withdraw_b15 (E : zE) (s0 : Nat) (s1 : Int32) (s2 : Int64) (h : zH) : Option (Int32 × zH) :=
  (sL h s0 s1 s2).bind fun h1 =>
  some ((0 : Int32), h1)
theorem w_X0_withdraw_b15 (C0 : zCx p l e R s m args below meth c D B0 4 "FranchiseLedgerLaw" cX0_withdraw E 12 197 (Option.some Jvm.ClassFile.FieldType.int) "withdraw") (ht : c.exceptionTable.toList = tableOf [((0 : Nat), (16 : Nat), (19 : Nat), (22 : Nat))]) {r : Int32} {h' : zH} {s0 : Nat} {s1 : Int32} {s2 : Int64} {h : zH} (hf : f_X0_withdraw_b15 E s0 s1 s2 h = some (r, h')) : zW p l e R s m args below meth c D B0 4 (zEnd D B0 R below args s (zoI r) h') h 15 [] [.long s2, .int s1, .ref s0] := by
  unfold f_X0_withdraw_b15 at hf
  obtain ⟨h1, e2, hf⟩ := zbind hf
  refine zr_last C0 dX0_withdraw_15 e2 ?_
  refine zr_goto C0 (tgt := 22) dX0_withdraw_16 (by decide) ?_
  refine zr_iconst C0 (v := 0) dX0_withdraw_22 (by decide) ?_
  refine zretW hf ?_
  exact zr_iret C0 (ty := .int) rfl rfl dX0_withdraw_23 rfl
def f_X0_withdraw_b0 (E : zE) (p0 : Nat) (p1 : Int32) (p2 : Nat) (h : zH) : Option (Int32 × zH) :=
  (cko h p0 0).bind fun _ =>
  bnd2 (f_X1_withdraw E p0 p1 h) fun x4 h2 =>
  Sum.elim (fun x5 => (
    if x5 = 0 then (
      f_X0_withdraw_b15 E p2 (0 : Int32) (0 : Int64) h2
    ) else (
      f_X0_withdraw_b15 E p2 (0 : Int32) (1 : Int64) h2
    )
  )) (fun q6 => (
    if q6.1 = 20 then (
      f_X0_withdraw_b19 E q6.2 h2
    ) else (
    none
    )
  )) x4
theorem w_X0_withdraw_b0 (C0 : zCx p l e R s m args below meth c D B0 4 "FranchiseLedgerLaw" cX0_withdraw E 12 197 (Option.some Jvm.ClassFile.FieldType.int) "withdraw") (ht : c.exceptionTable.toList = tableOf [((0 : Nat), (16 : Nat), (19 : Nat), (22 : Nat))]) {r : Int32} {h' : zH} {p0 : Nat} {p1 : Int32} {p2 : Nat} {h : zH} (hf : f_X0_withdraw_b0 E p0 p1 p2 h = some (r, h')) : zW p l e R s m args below meth c D B0 4 (zEnd D B0 R below args s (zoI r) h') h 0 [(0, .ref p0), (1, .int p1), (2, .ref p2)] [] := by
  unfold f_X0_withdraw_b0 at hf
  refine zr_aload_n C0 dX0_withdraw_0 rfl 2 rfl ?_
  refine zr_iconst C0 (v := 0) dX0_withdraw_1 (by decide) ?_
  refine zr_aload_n C0 dX0_withdraw_2 rfl 0 rfl ?_
  refine zr_iload_n C0 dX0_withdraw_3 rfl 1 rfl ?_
  obtain ⟨_, e1, hf⟩ := zbind hf
  obtain ⟨x4, h2, e3, hf⟩ := zbind2 hf
  rcases x4 with x5 | q6
  · have hf := zinl hf
    refine zr_callV_r C0 cv_X0_157_X1 rfl (zcko e1) (m_X1_withdraw C0.2.2.2.2.2.2.1 e3) (by decide) (by decide) rfl rfl (Nat.le_of_ble_eq_true rfl) dX0_withdraw_4 rfl ?_
    refine zr_if_eq C0 (tgt := 14) dX0_withdraw_7 (by decide) (fun c7 => ?_) (fun c7 => ?_)
    · have hf := zif_t c7 hf
      refine zr_lconst C0 (v := 0) dX0_withdraw_14 (by decide) ?_
      refine zr_sub [] rfl ?_
      exact w_X0_withdraw_b15 C0 ht hf
    · have hf := zif_f c7 hf
      refine zr_lconst C0 (v := 1) dX0_withdraw_10 (by decide) ?_
      refine zr_goto C0 (tgt := 15) dX0_withdraw_11 (by decide) ?_
      refine zr_sub [] rfl ?_
      exact w_X0_withdraw_b15 C0 ht hf
  · have hf := zinr hf
    rcases Decidable.em (q6.1 = 20) with c8 | c8
    · obtain ⟨q1, q2⟩ := q6
      subst c8
      have hf := zif_t rfl hf
      refine zr_callV_t C0 cv_X0_157_X1 rfl (zcko e1) (m_X1_withdraw C0.2.2.2.2.2.2.1 e3) (by decide) (by decide) rfl rfl (Nat.le_of_ble_eq_true rfl) dX0_withdraw_4 (zr_catch C0 (tableOf []) ⟨0, 16, 19, 22⟩ (tableOf []) (by rw [ht]; rfl) rfl (fun z hz => by cases hz) (by decide) (by decide) q2014 q787 ?_)
      refine zr_sub [] rfl ?_
      exact w_X0_withdraw_b19 C0 ht hf
    have hf := zif_f c8 hf
    cases hf
def f_X0_withdraw (E : zE) (p0 : Nat) (p1 : Int32) (p2 : Nat) (h : zH) : Option (Int32 × zH) := f_X0_withdraw_b0 E p0 p1 p2 h
theorem m_X0_withdraw {l : Launch} (hst : l.stackTraces = false) {D : zD} {B0 : Nat} {E : zE} {p0 : Nat} {p1 : Int32} {p2 : Nat} {h h' : zH} {r : Int32} (hf : f_X0_withdraw E p0 p1 p2 h = some (r, h')) : zMet l yX0_withdraw (wsW_ yX0_withdraw cX0_withdraw 4 (Option.some Jvm.ClassFile.FieldType.int) [((0 : Nat), (16 : Nat), (19 : Nat), (22 : Nat))]) 12 197 D B0 E [.ref p0, .int p1, .ref p2] h (zoI r) h' := by
  unfold f_X0_withdraw at hf
  refine zMet_ofH hst (by decide +kernel) rfl rfl (Nat.le_of_ble_eq_true rfl) (fun p e R s m below meth c C0 ht => ?_)
  show zW _ _ _ _ _ _ _ _ _ _ _ _ _ _ _ _ [(0, .ref p0), (1, .int p1), (2, .ref p2)] []
  exact w_X0_withdraw_b0 C0 ht hf
def f_X0_transferState_b12 (E : zE) (s0 : Nat) (h : zH) : Option (Int32 × zH) :=
  some ((1 : Int32), h)
theorem w_X0_transferState_b12 (C0 : zCx p l e R s m args below meth c D B0 4 "FranchiseLedgerLaw" cX0_transferState E 12 196 (Option.some Jvm.ClassFile.FieldType.int) "transferState") (ht : c.exceptionTable.toList = tableOf [((0 : Nat), (9 : Nat), (12 : Nat), (22 : Nat))]) {r : Int32} {h' : zH} {s0 : Nat} {h : zH} (hf : f_X0_transferState_b12 E s0 h = some (r, h')) : zW p l e R s m args below meth c D B0 4 (zEnd D B0 R below args s (zoI r) h') h 12 [] [.ref s0] := by
  unfold f_X0_transferState_b12 at hf
  refine zr_astore_n (i := 3) (lv' := [(3, .ref s0)]) C0 dX0_transferState_12 rfl (by decide) (by first | rfl | simp [zst1, zst2, zcat_rf]) ?_
  refine zr_iconst C0 (v := 1) dX0_transferState_13 (by decide) ?_
  refine zretW hf ?_
  exact zr_iret C0 (ty := .int) rfl rfl dX0_transferState_14 rfl
def f_X0_transferState_b0 (E : zE) (p0 : Nat) (p1 : Int32) (p2 : Nat) (h : zH) : Option (Int32 × zH) :=
  (cko h p0 0).bind fun _ =>
  bnd2 (f_X1_transferState E p0 p1 h) fun x4 h2 =>
  Sum.elim (fun x5 => (
    (sL h2 p2 (0 : Int32) (x5.toInt64)).bind fun h7 =>
    some ((0 : Int32), h7)
  )) (fun q6 => (
    if q6.1 = 20 then (
      f_X0_transferState_b12 E q6.2 h2
    ) else (
    none
    )
  )) x4
theorem w_X0_transferState_b0 (C0 : zCx p l e R s m args below meth c D B0 4 "FranchiseLedgerLaw" cX0_transferState E 12 196 (Option.some Jvm.ClassFile.FieldType.int) "transferState") (ht : c.exceptionTable.toList = tableOf [((0 : Nat), (9 : Nat), (12 : Nat), (22 : Nat))]) {r : Int32} {h' : zH} {p0 : Nat} {p1 : Int32} {p2 : Nat} {h : zH} (hf : f_X0_transferState_b0 E p0 p1 p2 h = some (r, h')) : zW p l e R s m args below meth c D B0 4 (zEnd D B0 R below args s (zoI r) h') h 0 [(0, .ref p0), (1, .int p1), (2, .ref p2)] [] := by
  unfold f_X0_transferState_b0 at hf
  refine zr_aload_n C0 dX0_transferState_0 rfl 2 rfl ?_
  refine zr_iconst C0 (v := 0) dX0_transferState_1 (by decide) ?_
  refine zr_aload_n C0 dX0_transferState_2 rfl 0 rfl ?_
  refine zr_iload_n C0 dX0_transferState_3 rfl 1 rfl ?_
  obtain ⟨_, e1, hf⟩ := zbind hf
  obtain ⟨x4, h2, e3, hf⟩ := zbind2 hf
  rcases x4 with x5 | q6
  · have hf := zinl hf
    refine zr_callV_r C0 cv_X0_160_X1 rfl (zcko e1) (m_X1_transferState C0.2.2.2.2.2.2.1 e3) (by decide) (by decide) rfl rfl (Nat.le_of_ble_eq_true rfl) dX0_transferState_4 rfl ?_
    refine zr_i2l C0 dX0_transferState_7 ?_
    obtain ⟨h7, e8, hf⟩ := zbind hf
    refine zr_last C0 dX0_transferState_8 e8 ?_
    refine zr_goto C0 (tgt := 15) dX0_transferState_9 (by decide) ?_
    refine zr_iconst C0 (v := 0) dX0_transferState_15 (by decide) ?_
    refine zretW hf ?_
    exact zr_iret C0 (ty := .int) rfl rfl dX0_transferState_16 rfl
  · have hf := zinr hf
    rcases Decidable.em (q6.1 = 20) with c9 | c9
    · obtain ⟨q1, q2⟩ := q6
      subst c9
      have hf := zif_t rfl hf
      refine zr_callV_t C0 cv_X0_160_X1 rfl (zcko e1) (m_X1_transferState C0.2.2.2.2.2.2.1 e3) (by decide) (by decide) rfl rfl (Nat.le_of_ble_eq_true rfl) dX0_transferState_4 (zr_catch C0 (tableOf []) ⟨0, 9, 12, 22⟩ (tableOf []) (by rw [ht]; rfl) rfl (fun z hz => by cases hz) (by decide) (by decide) q2014 q787 ?_)
      refine zr_sub [] rfl ?_
      exact w_X0_transferState_b12 C0 ht hf
    have hf := zif_f c9 hf
    cases hf
def f_X0_transferState (E : zE) (p0 : Nat) (p1 : Int32) (p2 : Nat) (h : zH) : Option (Int32 × zH) := f_X0_transferState_b0 E p0 p1 p2 h
theorem m_X0_transferState {l : Launch} (hst : l.stackTraces = false) {D : zD} {B0 : Nat} {E : zE} {p0 : Nat} {p1 : Int32} {p2 : Nat} {h h' : zH} {r : Int32} (hf : f_X0_transferState E p0 p1 p2 h = some (r, h')) : zMet l yX0_transferState (wsW_ yX0_transferState cX0_transferState 4 (Option.some Jvm.ClassFile.FieldType.int) [((0 : Nat), (9 : Nat), (12 : Nat), (22 : Nat))]) 12 196 D B0 E [.ref p0, .int p1, .ref p2] h (zoI r) h' := by
  unfold f_X0_transferState at hf
  refine zMet_ofH hst (by decide +kernel) rfl rfl (Nat.le_of_ble_eq_true rfl) (fun p e R s m below meth c C0 ht => ?_)
  show zW _ _ _ _ _ _ _ _ _ _ _ _ _ _ _ _ [(0, .ref p0), (1, .int p1), (2, .ref p2)] []
  exact w_X0_transferState_b0 C0 ht hf
def f_X0_transferWait_b12 (E : zE) (s0 : Nat) (h : zH) : Option (Int32 × zH) :=
  some ((1 : Int32), h)
theorem w_X0_transferWait_b12 (C0 : zCx p l e R s m args below meth c D B0 4 "FranchiseLedgerLaw" cX0_transferWait E 12 197 (Option.some Jvm.ClassFile.FieldType.int) "transferWait") (ht : c.exceptionTable.toList = tableOf [((0 : Nat), (9 : Nat), (12 : Nat), (22 : Nat))]) {r : Int32} {h' : zH} {s0 : Nat} {h : zH} (hf : f_X0_transferWait_b12 E s0 h = some (r, h')) : zW p l e R s m args below meth c D B0 4 (zEnd D B0 R below args s (zoI r) h') h 12 [] [.ref s0] := by
  unfold f_X0_transferWait_b12 at hf
  refine zr_astore_n (i := 3) (lv' := [(3, .ref s0)]) C0 dX0_transferWait_12 rfl (by decide) (by first | rfl | simp [zst1, zst2, zcat_rf]) ?_
  refine zr_iconst C0 (v := 1) dX0_transferWait_13 (by decide) ?_
  refine zretW hf ?_
  exact zr_iret C0 (ty := .int) rfl rfl dX0_transferWait_14 rfl
def f_X0_transferWait_b0 (E : zE) (p0 : Nat) (p1 : Int32) (p2 : Nat) (h : zH) : Option (Int32 × zH) :=
  (cko h p0 0).bind fun _ =>
  bnd2 (f_X1_transferWait E p0 p1 h) fun x4 h2 =>
  Sum.elim (fun x5 => (
    (sL h2 p2 (0 : Int32) (x5.toInt64)).bind fun h7 =>
    some ((0 : Int32), h7)
  )) (fun q6 => (
    if q6.1 = 20 then (
      f_X0_transferWait_b12 E q6.2 h2
    ) else (
    none
    )
  )) x4
theorem w_X0_transferWait_b0 (C0 : zCx p l e R s m args below meth c D B0 4 "FranchiseLedgerLaw" cX0_transferWait E 12 197 (Option.some Jvm.ClassFile.FieldType.int) "transferWait") (ht : c.exceptionTable.toList = tableOf [((0 : Nat), (9 : Nat), (12 : Nat), (22 : Nat))]) {r : Int32} {h' : zH} {p0 : Nat} {p1 : Int32} {p2 : Nat} {h : zH} (hf : f_X0_transferWait_b0 E p0 p1 p2 h = some (r, h')) : zW p l e R s m args below meth c D B0 4 (zEnd D B0 R below args s (zoI r) h') h 0 [(0, .ref p0), (1, .int p1), (2, .ref p2)] [] := by
  unfold f_X0_transferWait_b0 at hf
  refine zr_aload_n C0 dX0_transferWait_0 rfl 2 rfl ?_
  refine zr_iconst C0 (v := 0) dX0_transferWait_1 (by decide) ?_
  refine zr_aload_n C0 dX0_transferWait_2 rfl 0 rfl ?_
  refine zr_iload_n C0 dX0_transferWait_3 rfl 1 rfl ?_
  obtain ⟨_, e1, hf⟩ := zbind hf
  obtain ⟨x4, h2, e3, hf⟩ := zbind2 hf
  rcases x4 with x5 | q6
  · have hf := zinl hf
    refine zr_callV_r C0 cv_X0_163_X1 rfl (zcko e1) (m_X1_transferWait C0.2.2.2.2.2.2.1 e3) (by decide) (by decide) rfl rfl (Nat.le_of_ble_eq_true rfl) dX0_transferWait_4 rfl ?_
    refine zr_i2l C0 dX0_transferWait_7 ?_
    obtain ⟨h7, e8, hf⟩ := zbind hf
    refine zr_last C0 dX0_transferWait_8 e8 ?_
    refine zr_goto C0 (tgt := 15) dX0_transferWait_9 (by decide) ?_
    refine zr_iconst C0 (v := 0) dX0_transferWait_15 (by decide) ?_
    refine zretW hf ?_
    exact zr_iret C0 (ty := .int) rfl rfl dX0_transferWait_16 rfl
  · have hf := zinr hf
    rcases Decidable.em (q6.1 = 20) with c9 | c9
    · obtain ⟨q1, q2⟩ := q6
      subst c9
      have hf := zif_t rfl hf
      refine zr_callV_t C0 cv_X0_163_X1 rfl (zcko e1) (m_X1_transferWait C0.2.2.2.2.2.2.1 e3) (by decide) (by decide) rfl rfl (Nat.le_of_ble_eq_true rfl) dX0_transferWait_4 (zr_catch C0 (tableOf []) ⟨0, 9, 12, 22⟩ (tableOf []) (by rw [ht]; rfl) rfl (fun z hz => by cases hz) (by decide) (by decide) q2014 q787 ?_)
      refine zr_sub [] rfl ?_
      exact w_X0_transferWait_b12 C0 ht hf
    have hf := zif_f c9 hf
    cases hf
def f_X0_transferWait (E : zE) (p0 : Nat) (p1 : Int32) (p2 : Nat) (h : zH) : Option (Int32 × zH) := f_X0_transferWait_b0 E p0 p1 p2 h
theorem m_X0_transferWait {l : Launch} (hst : l.stackTraces = false) {D : zD} {B0 : Nat} {E : zE} {p0 : Nat} {p1 : Int32} {p2 : Nat} {h h' : zH} {r : Int32} (hf : f_X0_transferWait E p0 p1 p2 h = some (r, h')) : zMet l yX0_transferWait (wsW_ yX0_transferWait cX0_transferWait 4 (Option.some Jvm.ClassFile.FieldType.int) [((0 : Nat), (9 : Nat), (12 : Nat), (22 : Nat))]) 12 197 D B0 E [.ref p0, .int p1, .ref p2] h (zoI r) h' := by
  unfold f_X0_transferWait at hf
  refine zMet_ofH hst (by decide +kernel) rfl rfl (Nat.le_of_ble_eq_true rfl) (fun p e R s m below meth c C0 ht => ?_)
  show zW _ _ _ _ _ _ _ _ _ _ _ _ _ _ _ _ [(0, .ref p0), (1, .int p1), (2, .ref p2)] []
  exact w_X0_transferWait_b0 C0 ht hf
def f_X0_generation_b12 (E : zE) (s0 : Nat) (h : zH) : Option (Int32 × zH) :=
  some ((1 : Int32), h)
theorem w_X0_generation_b12 (C0 : zCx p l e R s m args below meth c D B0 4 "FranchiseLedgerLaw" cX0_generation E 12 196 (Option.some Jvm.ClassFile.FieldType.int) "generation") (ht : c.exceptionTable.toList = tableOf [((0 : Nat), (9 : Nat), (12 : Nat), (22 : Nat))]) {r : Int32} {h' : zH} {s0 : Nat} {h : zH} (hf : f_X0_generation_b12 E s0 h = some (r, h')) : zW p l e R s m args below meth c D B0 4 (zEnd D B0 R below args s (zoI r) h') h 12 [] [.ref s0] := by
  unfold f_X0_generation_b12 at hf
  refine zr_astore_n (i := 3) (lv' := [(3, .ref s0)]) C0 dX0_generation_12 rfl (by decide) (by first | rfl | simp [zst1, zst2, zcat_rf]) ?_
  refine zr_iconst C0 (v := 1) dX0_generation_13 (by decide) ?_
  refine zretW hf ?_
  exact zr_iret C0 (ty := .int) rfl rfl dX0_generation_14 rfl
def f_X0_generation_b0 (E : zE) (p0 : Nat) (p1 : Int32) (p2 : Nat) (h : zH) : Option (Int32 × zH) :=
  (cko h p0 0).bind fun _ =>
  bnd2 (f_X1_generation E p0 p1 h) fun x4 h2 =>
  Sum.elim (fun x5 => (
    (sL h2 p2 (0 : Int32) (x5.toInt64)).bind fun h7 =>
    some ((0 : Int32), h7)
  )) (fun q6 => (
    if q6.1 = 20 then (
      f_X0_generation_b12 E q6.2 h2
    ) else (
    none
    )
  )) x4
theorem w_X0_generation_b0 (C0 : zCx p l e R s m args below meth c D B0 4 "FranchiseLedgerLaw" cX0_generation E 12 196 (Option.some Jvm.ClassFile.FieldType.int) "generation") (ht : c.exceptionTable.toList = tableOf [((0 : Nat), (9 : Nat), (12 : Nat), (22 : Nat))]) {r : Int32} {h' : zH} {p0 : Nat} {p1 : Int32} {p2 : Nat} {h : zH} (hf : f_X0_generation_b0 E p0 p1 p2 h = some (r, h')) : zW p l e R s m args below meth c D B0 4 (zEnd D B0 R below args s (zoI r) h') h 0 [(0, .ref p0), (1, .int p1), (2, .ref p2)] [] := by
  unfold f_X0_generation_b0 at hf
  refine zr_aload_n C0 dX0_generation_0 rfl 2 rfl ?_
  refine zr_iconst C0 (v := 0) dX0_generation_1 (by decide) ?_
  refine zr_aload_n C0 dX0_generation_2 rfl 0 rfl ?_
  refine zr_iload_n C0 dX0_generation_3 rfl 1 rfl ?_
  obtain ⟨_, e1, hf⟩ := zbind hf
  obtain ⟨x4, h2, e3, hf⟩ := zbind2 hf
  rcases x4 with x5 | q6
  · have hf := zinl hf
    refine zr_callV_r C0 cv_X0_166_X1 rfl (zcko e1) (m_X1_generation C0.2.2.2.2.2.2.1 e3) (by decide) (by decide) rfl rfl (Nat.le_of_ble_eq_true rfl) dX0_generation_4 rfl ?_
    refine zr_i2l C0 dX0_generation_7 ?_
    obtain ⟨h7, e8, hf⟩ := zbind hf
    refine zr_last C0 dX0_generation_8 e8 ?_
    refine zr_goto C0 (tgt := 15) dX0_generation_9 (by decide) ?_
    refine zr_iconst C0 (v := 0) dX0_generation_15 (by decide) ?_
    refine zretW hf ?_
    exact zr_iret C0 (ty := .int) rfl rfl dX0_generation_16 rfl
  · have hf := zinr hf
    rcases Decidable.em (q6.1 = 20) with c9 | c9
    · obtain ⟨q1, q2⟩ := q6
      subst c9
      have hf := zif_t rfl hf
      refine zr_callV_t C0 cv_X0_166_X1 rfl (zcko e1) (m_X1_generation C0.2.2.2.2.2.2.1 e3) (by decide) (by decide) rfl rfl (Nat.le_of_ble_eq_true rfl) dX0_generation_4 (zr_catch C0 (tableOf []) ⟨0, 9, 12, 22⟩ (tableOf []) (by rw [ht]; rfl) rfl (fun z hz => by cases hz) (by decide) (by decide) q2014 q787 ?_)
      refine zr_sub [] rfl ?_
      exact w_X0_generation_b12 C0 ht hf
    have hf := zif_f c9 hf
    cases hf
def f_X0_generation (E : zE) (p0 : Nat) (p1 : Int32) (p2 : Nat) (h : zH) : Option (Int32 × zH) := f_X0_generation_b0 E p0 p1 p2 h
theorem m_X0_generation {l : Launch} (hst : l.stackTraces = false) {D : zD} {B0 : Nat} {E : zE} {p0 : Nat} {p1 : Int32} {p2 : Nat} {h h' : zH} {r : Int32} (hf : f_X0_generation E p0 p1 p2 h = some (r, h')) : zMet l yX0_generation (wsW_ yX0_generation cX0_generation 4 (Option.some Jvm.ClassFile.FieldType.int) [((0 : Nat), (9 : Nat), (12 : Nat), (22 : Nat))]) 12 196 D B0 E [.ref p0, .int p1, .ref p2] h (zoI r) h' := by
  unfold f_X0_generation at hf
  refine zMet_ofH hst (by decide +kernel) rfl rfl (Nat.le_of_ble_eq_true rfl) (fun p e R s m below meth c C0 ht => ?_)
  show zW _ _ _ _ _ _ _ _ _ _ _ _ _ _ _ _ [(0, .ref p0), (1, .int p1), (2, .ref p2)] []
  exact w_X0_generation_b0 C0 ht hf
def f_X0_worth_b12 (E : zE) (s0 : Nat) (h : zH) : Option (Int32 × zH) :=
  some ((1 : Int32), h)
theorem w_X0_worth_b12 (C0 : zCx p l e R s m args below meth c D B0 4 "FranchiseLedgerLaw" cX0_worth E 12 196 (Option.some Jvm.ClassFile.FieldType.int) "worth") (ht : c.exceptionTable.toList = tableOf [((0 : Nat), (9 : Nat), (12 : Nat), (22 : Nat))]) {r : Int32} {h' : zH} {s0 : Nat} {h : zH} (hf : f_X0_worth_b12 E s0 h = some (r, h')) : zW p l e R s m args below meth c D B0 4 (zEnd D B0 R below args s (zoI r) h') h 12 [] [.ref s0] := by
  unfold f_X0_worth_b12 at hf
  refine zr_astore_n (i := 3) (lv' := [(3, .ref s0)]) C0 dX0_worth_12 rfl (by decide) (by first | rfl | simp [zst1, zst2, zcat_rf]) ?_
  refine zr_iconst C0 (v := 1) dX0_worth_13 (by decide) ?_
  refine zretW hf ?_
  exact zr_iret C0 (ty := .int) rfl rfl dX0_worth_14 rfl
def f_X0_worth_b0 (E : zE) (p0 : Nat) (p1 : Int32) (p2 : Nat) (h : zH) : Option (Int32 × zH) :=
  (cko h p0 0).bind fun _ =>
  bnd2 (f_X1_worth E p0 p1 h) fun x4 h2 =>
  Sum.elim (fun x5 => (
    (sL h2 p2 (0 : Int32) (x5.toInt64)).bind fun h7 =>
    some ((0 : Int32), h7)
  )) (fun q6 => (
    if q6.1 = 20 then (
      f_X0_worth_b12 E q6.2 h2
    ) else (
    none
    )
  )) x4
theorem w_X0_worth_b0 (C0 : zCx p l e R s m args below meth c D B0 4 "FranchiseLedgerLaw" cX0_worth E 12 196 (Option.some Jvm.ClassFile.FieldType.int) "worth") (ht : c.exceptionTable.toList = tableOf [((0 : Nat), (9 : Nat), (12 : Nat), (22 : Nat))]) {r : Int32} {h' : zH} {p0 : Nat} {p1 : Int32} {p2 : Nat} {h : zH} (hf : f_X0_worth_b0 E p0 p1 p2 h = some (r, h')) : zW p l e R s m args below meth c D B0 4 (zEnd D B0 R below args s (zoI r) h') h 0 [(0, .ref p0), (1, .int p1), (2, .ref p2)] [] := by
  unfold f_X0_worth_b0 at hf
  refine zr_aload_n C0 dX0_worth_0 rfl 2 rfl ?_
  refine zr_iconst C0 (v := 0) dX0_worth_1 (by decide) ?_
  refine zr_aload_n C0 dX0_worth_2 rfl 0 rfl ?_
  refine zr_iload_n C0 dX0_worth_3 rfl 1 rfl ?_
  obtain ⟨_, e1, hf⟩ := zbind hf
  obtain ⟨x4, h2, e3, hf⟩ := zbind2 hf
  rcases x4 with x5 | q6
  · have hf := zinl hf
    refine zr_callV_r C0 cv_X0_169_X1 rfl (zcko e1) (m_X1_worth C0.2.2.2.2.2.2.1 e3) (by decide) (by decide) rfl rfl (Nat.le_of_ble_eq_true rfl) dX0_worth_4 rfl ?_
    refine zr_i2l C0 dX0_worth_7 ?_
    obtain ⟨h7, e8, hf⟩ := zbind hf
    refine zr_last C0 dX0_worth_8 e8 ?_
    refine zr_goto C0 (tgt := 15) dX0_worth_9 (by decide) ?_
    refine zr_iconst C0 (v := 0) dX0_worth_15 (by decide) ?_
    refine zretW hf ?_
    exact zr_iret C0 (ty := .int) rfl rfl dX0_worth_16 rfl
  · have hf := zinr hf
    rcases Decidable.em (q6.1 = 20) with c9 | c9
    · obtain ⟨q1, q2⟩ := q6
      subst c9
      have hf := zif_t rfl hf
      refine zr_callV_t C0 cv_X0_169_X1 rfl (zcko e1) (m_X1_worth C0.2.2.2.2.2.2.1 e3) (by decide) (by decide) rfl rfl (Nat.le_of_ble_eq_true rfl) dX0_worth_4 (zr_catch C0 (tableOf []) ⟨0, 9, 12, 22⟩ (tableOf []) (by rw [ht]; rfl) rfl (fun z hz => by cases hz) (by decide) (by decide) q2014 q787 ?_)
      refine zr_sub [] rfl ?_
      exact w_X0_worth_b12 C0 ht hf
    have hf := zif_f c9 hf
    cases hf
def f_X0_worth (E : zE) (p0 : Nat) (p1 : Int32) (p2 : Nat) (h : zH) : Option (Int32 × zH) := f_X0_worth_b0 E p0 p1 p2 h
theorem m_X0_worth {l : Launch} (hst : l.stackTraces = false) {D : zD} {B0 : Nat} {E : zE} {p0 : Nat} {p1 : Int32} {p2 : Nat} {h h' : zH} {r : Int32} (hf : f_X0_worth E p0 p1 p2 h = some (r, h')) : zMet l yX0_worth (wsW_ yX0_worth cX0_worth 4 (Option.some Jvm.ClassFile.FieldType.int) [((0 : Nat), (9 : Nat), (12 : Nat), (22 : Nat))]) 12 196 D B0 E [.ref p0, .int p1, .ref p2] h (zoI r) h' := by
  unfold f_X0_worth at hf
  refine zMet_ofH hst (by decide +kernel) rfl rfl (Nat.le_of_ble_eq_true rfl) (fun p e R s m below meth c C0 ht => ?_)
  show zW _ _ _ _ _ _ _ _ _ _ _ _ _ _ _ _ [(0, .ref p0), (1, .int p1), (2, .ref p2)] []
  exact w_X0_worth_b0 C0 ht hf
def f_X0_formatInvoice_b13 (E : zE) (s0 : Nat) (h : zH) : Option (Int32 × zH) :=
  some ((1 : Int32), h)
theorem w_X0_formatInvoice_b13 (C0 : zCx p l e R s m args below meth c D B0 5 "FranchiseLedgerLaw" cX0_formatInvoice E 12 313 (Option.some Jvm.ClassFile.FieldType.int) "formatInvoice") (ht : c.exceptionTable.toList = tableOf [((0 : Nat), (10 : Nat), (13 : Nat), (22 : Nat)), ((0 : Nat), (10 : Nat), (17 : Nat), (13 : Nat))]) {r : Int32} {h' : zH} {s0 : Nat} {h : zH} (hf : f_X0_formatInvoice_b13 E s0 h = some (r, h')) : zW p l e R s m args below meth c D B0 5 (zEnd D B0 R below args s (zoI r) h') h 13 [] [.ref s0] := by
  unfold f_X0_formatInvoice_b13 at hf
  refine zr_astore (i := 4) (lv' := [(4, .ref s0)]) C0 dX0_formatInvoice_13 (by decide) (by first | rfl | simp [zst1, zst2, zcat_rf]) ?_
  refine zr_iconst C0 (v := 1) dX0_formatInvoice_15 (by decide) ?_
  refine zretW hf ?_
  exact zr_iret C0 (ty := .int) rfl rfl dX0_formatInvoice_16 rfl
def f_X0_formatInvoice_b17 (E : zE) (s0 : Nat) (h : zH) : Option (Int32 × zH) :=
  some ((2 : Int32), h)
theorem w_X0_formatInvoice_b17 (C0 : zCx p l e R s m args below meth c D B0 5 "FranchiseLedgerLaw" cX0_formatInvoice E 12 313 (Option.some Jvm.ClassFile.FieldType.int) "formatInvoice") (ht : c.exceptionTable.toList = tableOf [((0 : Nat), (10 : Nat), (13 : Nat), (22 : Nat)), ((0 : Nat), (10 : Nat), (17 : Nat), (13 : Nat))]) {r : Int32} {h' : zH} {s0 : Nat} {h : zH} (hf : f_X0_formatInvoice_b17 E s0 h = some (r, h')) : zW p l e R s m args below meth c D B0 5 (zEnd D B0 R below args s (zoI r) h') h 17 [] [.ref s0] := by
  unfold f_X0_formatInvoice_b17 at hf
  refine zr_astore (i := 4) (lv' := [(4, .ref s0)]) C0 dX0_formatInvoice_17 (by decide) (by first | rfl | simp [zst1, zst2, zcat_rf]) ?_
  refine zr_iconst C0 (v := 2) dX0_formatInvoice_19 (by decide) ?_
  refine zretW hf ?_
  exact zr_iret C0 (ty := .int) rfl rfl dX0_formatInvoice_20 rfl
def f_X0_formatInvoice_b0 (E : zE) (p0 : Nat) (p1 : Int32) (p2 : Int32) (p3 : Nat) (h : zH) : Option (Int32 × zH) :=
  (cko h p0 0).bind fun _ =>
  bnd2 (f_X1_formatInvoice E p0 p1 p2 h) fun x4 h2 =>
  Sum.elim (fun x5 => (
    (sL h2 p3 (0 : Int32) (x5.toInt64)).bind fun h7 =>
    some ((0 : Int32), h7)
  )) (fun q6 => (
    if q6.1 = 20 then (
      f_X0_formatInvoice_b13 E q6.2 h2
    ) else (
    if q6.1 = 21 then (
      f_X0_formatInvoice_b17 E q6.2 h2
    ) else (
    none
    ))
  )) x4
theorem w_X0_formatInvoice_b0 (C0 : zCx p l e R s m args below meth c D B0 5 "FranchiseLedgerLaw" cX0_formatInvoice E 12 313 (Option.some Jvm.ClassFile.FieldType.int) "formatInvoice") (ht : c.exceptionTable.toList = tableOf [((0 : Nat), (10 : Nat), (13 : Nat), (22 : Nat)), ((0 : Nat), (10 : Nat), (17 : Nat), (13 : Nat))]) {r : Int32} {h' : zH} {p0 : Nat} {p1 : Int32} {p2 : Int32} {p3 : Nat} {h : zH} (hf : f_X0_formatInvoice_b0 E p0 p1 p2 p3 h = some (r, h')) : zW p l e R s m args below meth c D B0 5 (zEnd D B0 R below args s (zoI r) h') h 0 [(0, .ref p0), (1, .int p1), (2, .int p2), (3, .ref p3)] [] := by
  unfold f_X0_formatInvoice_b0 at hf
  refine zr_aload_n C0 dX0_formatInvoice_0 rfl 3 rfl ?_
  refine zr_iconst C0 (v := 0) dX0_formatInvoice_1 (by decide) ?_
  refine zr_aload_n C0 dX0_formatInvoice_2 rfl 0 rfl ?_
  refine zr_iload_n C0 dX0_formatInvoice_3 rfl 1 rfl ?_
  refine zr_iload_n C0 dX0_formatInvoice_4 rfl 2 rfl ?_
  obtain ⟨_, e1, hf⟩ := zbind hf
  obtain ⟨x4, h2, e3, hf⟩ := zbind2 hf
  rcases x4 with x5 | q6
  · have hf := zinl hf
    refine zr_callV_r C0 cv_X0_172_X1 rfl (zcko e1) (m_X1_formatInvoice C0.2.2.2.2.2.2.1 e3) (by decide) (by decide) rfl rfl (Nat.le_of_ble_eq_true rfl) dX0_formatInvoice_5 rfl ?_
    refine zr_i2l C0 dX0_formatInvoice_8 ?_
    obtain ⟨h7, e8, hf⟩ := zbind hf
    refine zr_last C0 dX0_formatInvoice_9 e8 ?_
    refine zr_goto C0 (tgt := 21) dX0_formatInvoice_10 (by decide) ?_
    refine zr_iconst C0 (v := 0) dX0_formatInvoice_21 (by decide) ?_
    refine zretW hf ?_
    exact zr_iret C0 (ty := .int) rfl rfl dX0_formatInvoice_22 rfl
  · have hf := zinr hf
    rcases Decidable.em (q6.1 = 20) with c9 | c9
    · obtain ⟨q1, q2⟩ := q6
      subst c9
      have hf := zif_t rfl hf
      refine zr_callV_t C0 cv_X0_172_X1 rfl (zcko e1) (m_X1_formatInvoice C0.2.2.2.2.2.2.1 e3) (by decide) (by decide) rfl rfl (Nat.le_of_ble_eq_true rfl) dX0_formatInvoice_5 (zr_catch C0 (tableOf []) ⟨0, 10, 13, 22⟩ (tableOf [(0, 10, 17, 13)]) (by rw [ht]; rfl) rfl (fun z hz => by cases hz) (by decide) (by decide) q2014 q787 ?_)
      refine zr_sub [] rfl ?_
      exact w_X0_formatInvoice_b13 C0 ht hf
    have hf := zif_f c9 hf
    rcases Decidable.em (q6.1 = 21) with c10 | c10
    · obtain ⟨q1, q2⟩ := q6
      subst c10
      have hf := zif_t rfl hf
      refine zr_callV_t C0 cv_X0_172_X1 rfl (zcko e1) (m_X1_formatInvoice C0.2.2.2.2.2.2.1 e3) (by decide) (by decide) rfl rfl (Nat.le_of_ble_eq_true rfl) dX0_formatInvoice_5 (zr_catch C0 (tableOf [(0, 10, 13, 22)]) ⟨0, 10, 17, 13⟩ (tableOf []) (by rw [ht]; rfl) rfl (show ∀ z ∈ tableOf [(0, 10, 13, 22)], _ from (List.forall_mem_cons.mpr ⟨Or.inr ⟨by decide, "java/lang/IndexOutOfBoundsException", q2014, by decide +kernel⟩, (List.forall_mem_nil _)⟩)) (by decide) (by decide) q1743 q208 ?_)
      refine zr_sub [] rfl ?_
      exact w_X0_formatInvoice_b17 C0 ht hf
    have hf := zif_f c10 hf
    cases hf
def f_X0_formatInvoice (E : zE) (p0 : Nat) (p1 : Int32) (p2 : Int32) (p3 : Nat) (h : zH) : Option (Int32 × zH) := f_X0_formatInvoice_b0 E p0 p1 p2 p3 h
theorem m_X0_formatInvoice {l : Launch} (hst : l.stackTraces = false) {D : zD} {B0 : Nat} {E : zE} {p0 : Nat} {p1 : Int32} {p2 : Int32} {p3 : Nat} {h h' : zH} {r : Int32} (hf : f_X0_formatInvoice E p0 p1 p2 p3 h = some (r, h')) : zMet l yX0_formatInvoice (wsW_ yX0_formatInvoice cX0_formatInvoice 5 (Option.some Jvm.ClassFile.FieldType.int) [((0 : Nat), (10 : Nat), (13 : Nat), (22 : Nat)), ((0 : Nat), (10 : Nat), (17 : Nat), (13 : Nat))]) 12 313 D B0 E [.ref p0, .int p1, .int p2, .ref p3] h (zoI r) h' := by
  unfold f_X0_formatInvoice at hf
  refine zMet_ofH hst (by decide +kernel) rfl rfl (Nat.le_of_ble_eq_true rfl) (fun p e R s m below meth c C0 ht => ?_)
  show zW _ _ _ _ _ _ _ _ _ _ _ _ _ _ _ _ [(0, .ref p0), (1, .int p1), (2, .int p2), (3, .ref p3)] []
  exact w_X0_formatInvoice_b0 C0 ht hf
def f_L_law_b4006 (E : zE) (k23 : Nat → Nat → Nat → Nat → Int32 → zH → Option (Int32 × zH)) (p0 : Nat) (p1 : Nat) (p2 : Nat) (p3 : Nat) (p4 : Int32) (h : zH) : Option (Int32 × zH) :=
  k23 p0 p1 p2 p3 (p4 + 7) h
theorem w_L_law_b4006 (C0 : zCx p l e R s m args below meth c D B0 8 "FranchiseLedgerLaw" cL_law E 17 417 (Option.some Jvm.ClassFile.FieldType.boolean) "law") {r : Int32} {h' : zH} {k23 : Nat → Nat → Nat → Nat → Int32 → zH → Option (Int32 × zH)} (hk23 : ∀ (p0 : Nat) (p1 : Nat) (p2 : Nat) (p3 : Nat) (p4 : Int32) (h : zH), k23 p0 p1 p2 p3 p4 h = some (r, h') → zW p l e R s m args below meth c D B0 8 (zEnd D B0 R below args s (zoI r) h') h 23 [(0, .ref p0), (1, .ref p1), (2, .ref p2), (3, .ref p3), (4, .int p4)] []) {p0 : Nat} {p1 : Nat} {p2 : Nat} {p3 : Nat} {p4 : Int32} {h : zH} (hf : f_L_law_b4006 E k23 p0 p1 p2 p3 p4 h = some (r, h')) : zW p l e R s m args below meth c D B0 8 (zEnd D B0 R below args s (zoI r) h') h 4006 [(0, .ref p0), (1, .ref p1), (2, .ref p2), (3, .ref p3), (4, .int p4)] [] := by
  unfold f_L_law_b4006 at hf
  refine zr_iinc (lv' := [(4, .int (p4 + 7)), (0, .ref p0), (1, .ref p1), (2, .ref p2), (3, .ref p3)]) C0 dL_law_4006 4 rfl rfl (by decide) (by first | rfl | simp [zst1, zst2, zcat_rf]) ?_
  refine zr_goto C0 (tgt := 23) dL_law_4009 (by decide) ?_
  refine zr_sub [1, 2, 3, 4, 0] rfl ?_
  exact hk23 _ _ _ _ _ _ hf
def f_L_law_b524 (E : zE) (k23 : Nat → Nat → Nat → Nat → Int32 → zH → Option (Int32 × zH)) (p0 : Nat) (p1 : Nat) (p2 : Nat) (p3 : Nat) (p4 : Int32) (h : zH) : Option (Int32 × zH) :=
  f_L_law_b4006 E k23 p0 p1 p2 p3 p4 h
theorem w_L_law_b524 (C0 : zCx p l e R s m args below meth c D B0 8 "FranchiseLedgerLaw" cL_law E 17 417 (Option.some Jvm.ClassFile.FieldType.boolean) "law") {r : Int32} {h' : zH} {k23 : Nat → Nat → Nat → Nat → Int32 → zH → Option (Int32 × zH)} (hk23 : ∀ (p0 : Nat) (p1 : Nat) (p2 : Nat) (p3 : Nat) (p4 : Int32) (h : zH), k23 p0 p1 p2 p3 p4 h = some (r, h') → zW p l e R s m args below meth c D B0 8 (zEnd D B0 R below args s (zoI r) h') h 23 [(0, .ref p0), (1, .ref p1), (2, .ref p2), (3, .ref p3), (4, .int p4)] []) {p0 : Nat} {p1 : Nat} {p2 : Nat} {p3 : Nat} {p4 : Int32} {h : zH} (hf : f_L_law_b524 E k23 p0 p1 p2 p3 p4 h = some (r, h')) : zW p l e R s m args below meth c D B0 8 (zEnd D B0 R below args s (zoI r) h') h 524 [(0, .ref p0), (1, .ref p1), (2, .ref p2), (3, .ref p3), (4, .int p4)] [] := by
  unfold f_L_law_b524 at hf
  refine zr_goto C0 (tgt := 4006) dL_law_524 (by decide) ?_
  exact w_L_law_b4006 C0 hk23 hf
def f_L_law_b630 (E : zE) (k23 : Nat → Nat → Nat → Nat → Int32 → zH → Option (Int32 × zH)) (p0 : Nat) (p1 : Nat) (p2 : Nat) (p3 : Nat) (p4 : Int32) (h : zH) : Option (Int32 × zH) :=
  f_L_law_b4006 E k23 p0 p1 p2 p3 p4 h
theorem w_L_law_b630 (C0 : zCx p l e R s m args below meth c D B0 8 "FranchiseLedgerLaw" cL_law E 17 417 (Option.some Jvm.ClassFile.FieldType.boolean) "law") {r : Int32} {h' : zH} {k23 : Nat → Nat → Nat → Nat → Int32 → zH → Option (Int32 × zH)} (hk23 : ∀ (p0 : Nat) (p1 : Nat) (p2 : Nat) (p3 : Nat) (p4 : Int32) (h : zH), k23 p0 p1 p2 p3 p4 h = some (r, h') → zW p l e R s m args below meth c D B0 8 (zEnd D B0 R below args s (zoI r) h') h 23 [(0, .ref p0), (1, .ref p1), (2, .ref p2), (3, .ref p3), (4, .int p4)] []) {p0 : Nat} {p1 : Nat} {p2 : Nat} {p3 : Nat} {p4 : Int32} {h : zH} (hf : f_L_law_b630 E k23 p0 p1 p2 p3 p4 h = some (r, h')) : zW p l e R s m args below meth c D B0 8 (zEnd D B0 R below args s (zoI r) h') h 630 [(0, .ref p0), (1, .ref p1), (2, .ref p2), (3, .ref p3), (4, .int p4)] [] := by
  unfold f_L_law_b630 at hf
  refine zr_goto C0 (tgt := 4006) dL_law_630 (by decide) ?_
  exact w_L_law_b4006 C0 hk23 hf
def f_L_law_b686 (E : zE) (k23 : Nat → Nat → Nat → Nat → Int32 → zH → Option (Int32 × zH)) (p0 : Nat) (p1 : Nat) (p2 : Nat) (p3 : Nat) (p4 : Int32) (h : zH) : Option (Int32 × zH) :=
  f_L_law_b4006 E k23 p0 p1 p2 p3 p4 h
theorem w_L_law_b686 (C0 : zCx p l e R s m args below meth c D B0 8 "FranchiseLedgerLaw" cL_law E 17 417 (Option.some Jvm.ClassFile.FieldType.boolean) "law") {r : Int32} {h' : zH} {k23 : Nat → Nat → Nat → Nat → Int32 → zH → Option (Int32 × zH)} (hk23 : ∀ (p0 : Nat) (p1 : Nat) (p2 : Nat) (p3 : Nat) (p4 : Int32) (h : zH), k23 p0 p1 p2 p3 p4 h = some (r, h') → zW p l e R s m args below meth c D B0 8 (zEnd D B0 R below args s (zoI r) h') h 23 [(0, .ref p0), (1, .ref p1), (2, .ref p2), (3, .ref p3), (4, .int p4)] []) {p0 : Nat} {p1 : Nat} {p2 : Nat} {p3 : Nat} {p4 : Int32} {h : zH} (hf : f_L_law_b686 E k23 p0 p1 p2 p3 p4 h = some (r, h')) : zW p l e R s m args below meth c D B0 8 (zEnd D B0 R below args s (zoI r) h') h 686 [(0, .ref p0), (1, .ref p1), (2, .ref p2), (3, .ref p3), (4, .int p4)] [] := by
  unfold f_L_law_b686 at hf
  refine zr_goto C0 (tgt := 4006) dL_law_686 (by decide) ?_
  exact w_L_law_b4006 C0 hk23 hf
def f_L_law_b742 (E : zE) (k23 : Nat → Nat → Nat → Nat → Int32 → zH → Option (Int32 × zH)) (p0 : Nat) (p1 : Nat) (p2 : Nat) (p3 : Nat) (p4 : Int32) (h : zH) : Option (Int32 × zH) :=
  f_L_law_b4006 E k23 p0 p1 p2 p3 p4 h
theorem w_L_law_b742 (C0 : zCx p l e R s m args below meth c D B0 8 "FranchiseLedgerLaw" cL_law E 17 417 (Option.some Jvm.ClassFile.FieldType.boolean) "law") {r : Int32} {h' : zH} {k23 : Nat → Nat → Nat → Nat → Int32 → zH → Option (Int32 × zH)} (hk23 : ∀ (p0 : Nat) (p1 : Nat) (p2 : Nat) (p3 : Nat) (p4 : Int32) (h : zH), k23 p0 p1 p2 p3 p4 h = some (r, h') → zW p l e R s m args below meth c D B0 8 (zEnd D B0 R below args s (zoI r) h') h 23 [(0, .ref p0), (1, .ref p1), (2, .ref p2), (3, .ref p3), (4, .int p4)] []) {p0 : Nat} {p1 : Nat} {p2 : Nat} {p3 : Nat} {p4 : Int32} {h : zH} (hf : f_L_law_b742 E k23 p0 p1 p2 p3 p4 h = some (r, h')) : zW p l e R s m args below meth c D B0 8 (zEnd D B0 R below args s (zoI r) h') h 742 [(0, .ref p0), (1, .ref p1), (2, .ref p2), (3, .ref p3), (4, .int p4)] [] := by
  unfold f_L_law_b742 at hf
  refine zr_goto C0 (tgt := 4006) dL_law_742 (by decide) ?_
  exact w_L_law_b4006 C0 hk23 hf
def f_L_law_b810 (E : zE) (k23 : Nat → Nat → Nat → Nat → Int32 → zH → Option (Int32 × zH)) (p0 : Nat) (p1 : Nat) (p2 : Nat) (p3 : Nat) (p4 : Int32) (h : zH) : Option (Int32 × zH) :=
  f_L_law_b4006 E k23 p0 p1 p2 p3 p4 h
theorem w_L_law_b810 (C0 : zCx p l e R s m args below meth c D B0 8 "FranchiseLedgerLaw" cL_law E 17 417 (Option.some Jvm.ClassFile.FieldType.boolean) "law") {r : Int32} {h' : zH} {k23 : Nat → Nat → Nat → Nat → Int32 → zH → Option (Int32 × zH)} (hk23 : ∀ (p0 : Nat) (p1 : Nat) (p2 : Nat) (p3 : Nat) (p4 : Int32) (h : zH), k23 p0 p1 p2 p3 p4 h = some (r, h') → zW p l e R s m args below meth c D B0 8 (zEnd D B0 R below args s (zoI r) h') h 23 [(0, .ref p0), (1, .ref p1), (2, .ref p2), (3, .ref p3), (4, .int p4)] []) {p0 : Nat} {p1 : Nat} {p2 : Nat} {p3 : Nat} {p4 : Int32} {h : zH} (hf : f_L_law_b810 E k23 p0 p1 p2 p3 p4 h = some (r, h')) : zW p l e R s m args below meth c D B0 8 (zEnd D B0 R below args s (zoI r) h') h 810 [(0, .ref p0), (1, .ref p1), (2, .ref p2), (3, .ref p3), (4, .int p4)] [] := by
  unfold f_L_law_b810 at hf
  refine zr_goto C0 (tgt := 4006) dL_law_810 (by decide) ?_
  exact w_L_law_b4006 C0 hk23 hf
def f_L_law_b873 (E : zE) (k23 : Nat → Nat → Nat → Nat → Int32 → zH → Option (Int32 × zH)) (p0 : Nat) (p1 : Nat) (p2 : Nat) (p3 : Nat) (p4 : Int32) (h : zH) : Option (Int32 × zH) :=
  f_L_law_b4006 E k23 p0 p1 p2 p3 p4 h
theorem w_L_law_b873 (C0 : zCx p l e R s m args below meth c D B0 8 "FranchiseLedgerLaw" cL_law E 17 417 (Option.some Jvm.ClassFile.FieldType.boolean) "law") {r : Int32} {h' : zH} {k23 : Nat → Nat → Nat → Nat → Int32 → zH → Option (Int32 × zH)} (hk23 : ∀ (p0 : Nat) (p1 : Nat) (p2 : Nat) (p3 : Nat) (p4 : Int32) (h : zH), k23 p0 p1 p2 p3 p4 h = some (r, h') → zW p l e R s m args below meth c D B0 8 (zEnd D B0 R below args s (zoI r) h') h 23 [(0, .ref p0), (1, .ref p1), (2, .ref p2), (3, .ref p3), (4, .int p4)] []) {p0 : Nat} {p1 : Nat} {p2 : Nat} {p3 : Nat} {p4 : Int32} {h : zH} (hf : f_L_law_b873 E k23 p0 p1 p2 p3 p4 h = some (r, h')) : zW p l e R s m args below meth c D B0 8 (zEnd D B0 R below args s (zoI r) h') h 873 [(0, .ref p0), (1, .ref p1), (2, .ref p2), (3, .ref p3), (4, .int p4)] [] := by
  unfold f_L_law_b873 at hf
  refine zr_goto C0 (tgt := 4006) dL_law_873 (by decide) ?_
  exact w_L_law_b4006 C0 hk23 hf
def f_L_law_b867 (E : zE) (k23 : Nat → Nat → Nat → Nat → Int32 → zH → Option (Int32 × zH)) (p0 : Nat) (p1 : Nat) (p2 : Nat) (p3 : Nat) (p4 : Int32) (s0 : Int64) (s1 : Int64) (h : zH) : Option (Int32 × zH) :=
  if s0 = s1 then (
    f_L_law_b873 E k23 p0 p1 p2 p3 p4 h
  ) else (
    some ((0 : Int32), h)
  )
theorem w_L_law_b867 (C0 : zCx p l e R s m args below meth c D B0 8 "FranchiseLedgerLaw" cL_law E 17 417 (Option.some Jvm.ClassFile.FieldType.boolean) "law") {r : Int32} {h' : zH} {k23 : Nat → Nat → Nat → Nat → Int32 → zH → Option (Int32 × zH)} (hk23 : ∀ (p0 : Nat) (p1 : Nat) (p2 : Nat) (p3 : Nat) (p4 : Int32) (h : zH), k23 p0 p1 p2 p3 p4 h = some (r, h') → zW p l e R s m args below meth c D B0 8 (zEnd D B0 R below args s (zoI r) h') h 23 [(0, .ref p0), (1, .ref p1), (2, .ref p2), (3, .ref p3), (4, .int p4)] []) {p0 : Nat} {p1 : Nat} {p2 : Nat} {p3 : Nat} {p4 : Int32} {s0 : Int64} {s1 : Int64} {h : zH} (hf : f_L_law_b867 E k23 p0 p1 p2 p3 p4 s0 s1 h = some (r, h')) : zW p l e R s m args below meth c D B0 8 (zEnd D B0 R below args s (zoI r) h') h 867 [(0, .ref p0), (1, .ref p1), (2, .ref p2), (3, .ref p3), (4, .int p4)] [.long s1, .long s0] := by
  unfold f_L_law_b867 at hf
  refine zr_lcmp C0 dL_law_867 ?_
  refine zr_if_eq C0 (tgt := 873) dL_law_868 (by decide) (fun c1 => ?_) (fun c1 => ?_)
  · have hf := zif_t (zl_eq.mp c1) hf
    exact w_L_law_b873 C0 hk23 hf
  · have hf := zif_f (zl_eqn.mp c1) hf
    refine zr_iconst C0 (v := 0) dL_law_871 (by decide) ?_
    refine zretW hf ?_
    exact zr_iret C0 (ty := .boolean) rfl (by decide) dL_law_872 rfl
def f_L_law_b953 (E : zE) (k23 : Nat → Nat → Nat → Nat → Int32 → zH → Option (Int32 × zH)) (p0 : Nat) (p1 : Nat) (p2 : Nat) (p3 : Nat) (p4 : Int32) (h : zH) : Option (Int32 × zH) :=
  f_L_law_b4006 E k23 p0 p1 p2 p3 p4 h
theorem w_L_law_b953 (C0 : zCx p l e R s m args below meth c D B0 8 "FranchiseLedgerLaw" cL_law E 17 417 (Option.some Jvm.ClassFile.FieldType.boolean) "law") {r : Int32} {h' : zH} {k23 : Nat → Nat → Nat → Nat → Int32 → zH → Option (Int32 × zH)} (hk23 : ∀ (p0 : Nat) (p1 : Nat) (p2 : Nat) (p3 : Nat) (p4 : Int32) (h : zH), k23 p0 p1 p2 p3 p4 h = some (r, h') → zW p l e R s m args below meth c D B0 8 (zEnd D B0 R below args s (zoI r) h') h 23 [(0, .ref p0), (1, .ref p1), (2, .ref p2), (3, .ref p3), (4, .int p4)] []) {p0 : Nat} {p1 : Nat} {p2 : Nat} {p3 : Nat} {p4 : Int32} {h : zH} (hf : f_L_law_b953 E k23 p0 p1 p2 p3 p4 h = some (r, h')) : zW p l e R s m args below meth c D B0 8 (zEnd D B0 R below args s (zoI r) h') h 953 [(0, .ref p0), (1, .ref p1), (2, .ref p2), (3, .ref p3), (4, .int p4)] [] := by
  unfold f_L_law_b953 at hf
  refine zr_goto C0 (tgt := 4006) dL_law_953 (by decide) ?_
  exact w_L_law_b4006 C0 hk23 hf
def f_L_law_b1071 (E : zE) (k23 : Nat → Nat → Nat → Nat → Int32 → zH → Option (Int32 × zH)) (p0 : Nat) (p1 : Nat) (p2 : Nat) (p3 : Nat) (p4 : Int32) (h : zH) : Option (Int32 × zH) :=
  f_L_law_b4006 E k23 p0 p1 p2 p3 p4 h
theorem w_L_law_b1071 (C0 : zCx p l e R s m args below meth c D B0 8 "FranchiseLedgerLaw" cL_law E 17 417 (Option.some Jvm.ClassFile.FieldType.boolean) "law") {r : Int32} {h' : zH} {k23 : Nat → Nat → Nat → Nat → Int32 → zH → Option (Int32 × zH)} (hk23 : ∀ (p0 : Nat) (p1 : Nat) (p2 : Nat) (p3 : Nat) (p4 : Int32) (h : zH), k23 p0 p1 p2 p3 p4 h = some (r, h') → zW p l e R s m args below meth c D B0 8 (zEnd D B0 R below args s (zoI r) h') h 23 [(0, .ref p0), (1, .ref p1), (2, .ref p2), (3, .ref p3), (4, .int p4)] []) {p0 : Nat} {p1 : Nat} {p2 : Nat} {p3 : Nat} {p4 : Int32} {h : zH} (hf : f_L_law_b1071 E k23 p0 p1 p2 p3 p4 h = some (r, h')) : zW p l e R s m args below meth c D B0 8 (zEnd D B0 R below args s (zoI r) h') h 1071 [(0, .ref p0), (1, .ref p1), (2, .ref p2), (3, .ref p3), (4, .int p4)] [] := by
  unfold f_L_law_b1071 at hf
  refine zr_goto C0 (tgt := 4006) dL_law_1071 (by decide) ?_
  exact w_L_law_b4006 C0 hk23 hf
def f_L_law_b1127 (E : zE) (k23 : Nat → Nat → Nat → Nat → Int32 → zH → Option (Int32 × zH)) (p0 : Nat) (p1 : Nat) (p2 : Nat) (p3 : Nat) (p4 : Int32) (h : zH) : Option (Int32 × zH) :=
  f_L_law_b4006 E k23 p0 p1 p2 p3 p4 h
theorem w_L_law_b1127 (C0 : zCx p l e R s m args below meth c D B0 8 "FranchiseLedgerLaw" cL_law E 17 417 (Option.some Jvm.ClassFile.FieldType.boolean) "law") {r : Int32} {h' : zH} {k23 : Nat → Nat → Nat → Nat → Int32 → zH → Option (Int32 × zH)} (hk23 : ∀ (p0 : Nat) (p1 : Nat) (p2 : Nat) (p3 : Nat) (p4 : Int32) (h : zH), k23 p0 p1 p2 p3 p4 h = some (r, h') → zW p l e R s m args below meth c D B0 8 (zEnd D B0 R below args s (zoI r) h') h 23 [(0, .ref p0), (1, .ref p1), (2, .ref p2), (3, .ref p3), (4, .int p4)] []) {p0 : Nat} {p1 : Nat} {p2 : Nat} {p3 : Nat} {p4 : Int32} {h : zH} (hf : f_L_law_b1127 E k23 p0 p1 p2 p3 p4 h = some (r, h')) : zW p l e R s m args below meth c D B0 8 (zEnd D B0 R below args s (zoI r) h') h 1127 [(0, .ref p0), (1, .ref p1), (2, .ref p2), (3, .ref p3), (4, .int p4)] [] := by
  unfold f_L_law_b1127 at hf
  refine zr_goto C0 (tgt := 4006) dL_law_1127 (by decide) ?_
  exact w_L_law_b4006 C0 hk23 hf
def f_L_law_b1183 (E : zE) (k23 : Nat → Nat → Nat → Nat → Int32 → zH → Option (Int32 × zH)) (p0 : Nat) (p1 : Nat) (p2 : Nat) (p3 : Nat) (p4 : Int32) (h : zH) : Option (Int32 × zH) :=
  f_L_law_b4006 E k23 p0 p1 p2 p3 p4 h
theorem w_L_law_b1183 (C0 : zCx p l e R s m args below meth c D B0 8 "FranchiseLedgerLaw" cL_law E 17 417 (Option.some Jvm.ClassFile.FieldType.boolean) "law") {r : Int32} {h' : zH} {k23 : Nat → Nat → Nat → Nat → Int32 → zH → Option (Int32 × zH)} (hk23 : ∀ (p0 : Nat) (p1 : Nat) (p2 : Nat) (p3 : Nat) (p4 : Int32) (h : zH), k23 p0 p1 p2 p3 p4 h = some (r, h') → zW p l e R s m args below meth c D B0 8 (zEnd D B0 R below args s (zoI r) h') h 23 [(0, .ref p0), (1, .ref p1), (2, .ref p2), (3, .ref p3), (4, .int p4)] []) {p0 : Nat} {p1 : Nat} {p2 : Nat} {p3 : Nat} {p4 : Int32} {h : zH} (hf : f_L_law_b1183 E k23 p0 p1 p2 p3 p4 h = some (r, h')) : zW p l e R s m args below meth c D B0 8 (zEnd D B0 R below args s (zoI r) h') h 1183 [(0, .ref p0), (1, .ref p1), (2, .ref p2), (3, .ref p3), (4, .int p4)] [] := by
  unfold f_L_law_b1183 at hf
  refine zr_goto C0 (tgt := 4006) dL_law_1183 (by decide) ?_
  exact w_L_law_b4006 C0 hk23 hf
def f_L_law_b1263 (E : zE) (k23 : Nat → Nat → Nat → Nat → Int32 → zH → Option (Int32 × zH)) (p0 : Nat) (p1 : Nat) (p2 : Nat) (p3 : Nat) (p4 : Int32) (h : zH) : Option (Int32 × zH) :=
  f_L_law_b4006 E k23 p0 p1 p2 p3 p4 h
theorem w_L_law_b1263 (C0 : zCx p l e R s m args below meth c D B0 8 "FranchiseLedgerLaw" cL_law E 17 417 (Option.some Jvm.ClassFile.FieldType.boolean) "law") {r : Int32} {h' : zH} {k23 : Nat → Nat → Nat → Nat → Int32 → zH → Option (Int32 × zH)} (hk23 : ∀ (p0 : Nat) (p1 : Nat) (p2 : Nat) (p3 : Nat) (p4 : Int32) (h : zH), k23 p0 p1 p2 p3 p4 h = some (r, h') → zW p l e R s m args below meth c D B0 8 (zEnd D B0 R below args s (zoI r) h') h 23 [(0, .ref p0), (1, .ref p1), (2, .ref p2), (3, .ref p3), (4, .int p4)] []) {p0 : Nat} {p1 : Nat} {p2 : Nat} {p3 : Nat} {p4 : Int32} {h : zH} (hf : f_L_law_b1263 E k23 p0 p1 p2 p3 p4 h = some (r, h')) : zW p l e R s m args below meth c D B0 8 (zEnd D B0 R below args s (zoI r) h') h 1263 [(0, .ref p0), (1, .ref p1), (2, .ref p2), (3, .ref p3), (4, .int p4)] [] := by
  unfold f_L_law_b1263 at hf
  refine zr_goto C0 (tgt := 4006) dL_law_1263 (by decide) ?_
  exact w_L_law_b4006 C0 hk23 hf
def f_L_law_b1319 (E : zE) (k23 : Nat → Nat → Nat → Nat → Int32 → zH → Option (Int32 × zH)) (p0 : Nat) (p1 : Nat) (p2 : Nat) (p3 : Nat) (p4 : Int32) (h : zH) : Option (Int32 × zH) :=
  f_L_law_b4006 E k23 p0 p1 p2 p3 p4 h
theorem w_L_law_b1319 (C0 : zCx p l e R s m args below meth c D B0 8 "FranchiseLedgerLaw" cL_law E 17 417 (Option.some Jvm.ClassFile.FieldType.boolean) "law") {r : Int32} {h' : zH} {k23 : Nat → Nat → Nat → Nat → Int32 → zH → Option (Int32 × zH)} (hk23 : ∀ (p0 : Nat) (p1 : Nat) (p2 : Nat) (p3 : Nat) (p4 : Int32) (h : zH), k23 p0 p1 p2 p3 p4 h = some (r, h') → zW p l e R s m args below meth c D B0 8 (zEnd D B0 R below args s (zoI r) h') h 23 [(0, .ref p0), (1, .ref p1), (2, .ref p2), (3, .ref p3), (4, .int p4)] []) {p0 : Nat} {p1 : Nat} {p2 : Nat} {p3 : Nat} {p4 : Int32} {h : zH} (hf : f_L_law_b1319 E k23 p0 p1 p2 p3 p4 h = some (r, h')) : zW p l e R s m args below meth c D B0 8 (zEnd D B0 R below args s (zoI r) h') h 1319 [(0, .ref p0), (1, .ref p1), (2, .ref p2), (3, .ref p3), (4, .int p4)] [] := by
  unfold f_L_law_b1319 at hf
  refine zr_goto C0 (tgt := 4006) dL_law_1319 (by decide) ?_
  exact w_L_law_b4006 C0 hk23 hf
def f_L_law_b1387 (E : zE) (k23 : Nat → Nat → Nat → Nat → Int32 → zH → Option (Int32 × zH)) (p0 : Nat) (p1 : Nat) (p2 : Nat) (p3 : Nat) (p4 : Int32) (h : zH) : Option (Int32 × zH) :=
  f_L_law_b4006 E k23 p0 p1 p2 p3 p4 h
theorem w_L_law_b1387 (C0 : zCx p l e R s m args below meth c D B0 8 "FranchiseLedgerLaw" cL_law E 17 417 (Option.some Jvm.ClassFile.FieldType.boolean) "law") {r : Int32} {h' : zH} {k23 : Nat → Nat → Nat → Nat → Int32 → zH → Option (Int32 × zH)} (hk23 : ∀ (p0 : Nat) (p1 : Nat) (p2 : Nat) (p3 : Nat) (p4 : Int32) (h : zH), k23 p0 p1 p2 p3 p4 h = some (r, h') → zW p l e R s m args below meth c D B0 8 (zEnd D B0 R below args s (zoI r) h') h 23 [(0, .ref p0), (1, .ref p1), (2, .ref p2), (3, .ref p3), (4, .int p4)] []) {p0 : Nat} {p1 : Nat} {p2 : Nat} {p3 : Nat} {p4 : Int32} {h : zH} (hf : f_L_law_b1387 E k23 p0 p1 p2 p3 p4 h = some (r, h')) : zW p l e R s m args below meth c D B0 8 (zEnd D B0 R below args s (zoI r) h') h 1387 [(0, .ref p0), (1, .ref p1), (2, .ref p2), (3, .ref p3), (4, .int p4)] [] := by
  unfold f_L_law_b1387 at hf
  refine zr_goto C0 (tgt := 4006) dL_law_1387 (by decide) ?_
  exact w_L_law_b4006 C0 hk23 hf
def f_L_law_b1455 (E : zE) (k23 : Nat → Nat → Nat → Nat → Int32 → zH → Option (Int32 × zH)) (p0 : Nat) (p1 : Nat) (p2 : Nat) (p3 : Nat) (p4 : Int32) (h : zH) : Option (Int32 × zH) :=
  f_L_law_b4006 E k23 p0 p1 p2 p3 p4 h
theorem w_L_law_b1455 (C0 : zCx p l e R s m args below meth c D B0 8 "FranchiseLedgerLaw" cL_law E 17 417 (Option.some Jvm.ClassFile.FieldType.boolean) "law") {r : Int32} {h' : zH} {k23 : Nat → Nat → Nat → Nat → Int32 → zH → Option (Int32 × zH)} (hk23 : ∀ (p0 : Nat) (p1 : Nat) (p2 : Nat) (p3 : Nat) (p4 : Int32) (h : zH), k23 p0 p1 p2 p3 p4 h = some (r, h') → zW p l e R s m args below meth c D B0 8 (zEnd D B0 R below args s (zoI r) h') h 23 [(0, .ref p0), (1, .ref p1), (2, .ref p2), (3, .ref p3), (4, .int p4)] []) {p0 : Nat} {p1 : Nat} {p2 : Nat} {p3 : Nat} {p4 : Int32} {h : zH} (hf : f_L_law_b1455 E k23 p0 p1 p2 p3 p4 h = some (r, h')) : zW p l e R s m args below meth c D B0 8 (zEnd D B0 R below args s (zoI r) h') h 1455 [(0, .ref p0), (1, .ref p1), (2, .ref p2), (3, .ref p3), (4, .int p4)] [] := by
  unfold f_L_law_b1455 at hf
  refine zr_goto C0 (tgt := 4006) dL_law_1455 (by decide) ?_
  exact w_L_law_b4006 C0 hk23 hf
def f_L_law_b1511 (E : zE) (k23 : Nat → Nat → Nat → Nat → Int32 → zH → Option (Int32 × zH)) (p0 : Nat) (p1 : Nat) (p2 : Nat) (p3 : Nat) (p4 : Int32) (h : zH) : Option (Int32 × zH) :=
  f_L_law_b4006 E k23 p0 p1 p2 p3 p4 h
theorem w_L_law_b1511 (C0 : zCx p l e R s m args below meth c D B0 8 "FranchiseLedgerLaw" cL_law E 17 417 (Option.some Jvm.ClassFile.FieldType.boolean) "law") {r : Int32} {h' : zH} {k23 : Nat → Nat → Nat → Nat → Int32 → zH → Option (Int32 × zH)} (hk23 : ∀ (p0 : Nat) (p1 : Nat) (p2 : Nat) (p3 : Nat) (p4 : Int32) (h : zH), k23 p0 p1 p2 p3 p4 h = some (r, h') → zW p l e R s m args below meth c D B0 8 (zEnd D B0 R below args s (zoI r) h') h 23 [(0, .ref p0), (1, .ref p1), (2, .ref p2), (3, .ref p3), (4, .int p4)] []) {p0 : Nat} {p1 : Nat} {p2 : Nat} {p3 : Nat} {p4 : Int32} {h : zH} (hf : f_L_law_b1511 E k23 p0 p1 p2 p3 p4 h = some (r, h')) : zW p l e R s m args below meth c D B0 8 (zEnd D B0 R below args s (zoI r) h') h 1511 [(0, .ref p0), (1, .ref p1), (2, .ref p2), (3, .ref p3), (4, .int p4)] [] := by
  unfold f_L_law_b1511 at hf
  refine zr_goto C0 (tgt := 4006) dL_law_1511 (by decide) ?_
  exact w_L_law_b4006 C0 hk23 hf
def f_L_law_b1610 (E : zE) (k23 : Nat → Nat → Nat → Nat → Int32 → zH → Option (Int32 × zH)) (p0 : Nat) (p1 : Nat) (p2 : Nat) (p3 : Nat) (p4 : Int32) (h : zH) : Option (Int32 × zH) :=
  f_L_law_b4006 E k23 p0 p1 p2 p3 p4 h
theorem w_L_law_b1610 (C0 : zCx p l e R s m args below meth c D B0 8 "FranchiseLedgerLaw" cL_law E 17 417 (Option.some Jvm.ClassFile.FieldType.boolean) "law") {r : Int32} {h' : zH} {k23 : Nat → Nat → Nat → Nat → Int32 → zH → Option (Int32 × zH)} (hk23 : ∀ (p0 : Nat) (p1 : Nat) (p2 : Nat) (p3 : Nat) (p4 : Int32) (h : zH), k23 p0 p1 p2 p3 p4 h = some (r, h') → zW p l e R s m args below meth c D B0 8 (zEnd D B0 R below args s (zoI r) h') h 23 [(0, .ref p0), (1, .ref p1), (2, .ref p2), (3, .ref p3), (4, .int p4)] []) {p0 : Nat} {p1 : Nat} {p2 : Nat} {p3 : Nat} {p4 : Int32} {h : zH} (hf : f_L_law_b1610 E k23 p0 p1 p2 p3 p4 h = some (r, h')) : zW p l e R s m args below meth c D B0 8 (zEnd D B0 R below args s (zoI r) h') h 1610 [(0, .ref p0), (1, .ref p1), (2, .ref p2), (3, .ref p3), (4, .int p4)] [] := by
  unfold f_L_law_b1610 at hf
  refine zr_goto C0 (tgt := 4006) dL_law_1610 (by decide) ?_
  exact w_L_law_b4006 C0 hk23 hf
def f_L_law_b1666 (E : zE) (k23 : Nat → Nat → Nat → Nat → Int32 → zH → Option (Int32 × zH)) (p0 : Nat) (p1 : Nat) (p2 : Nat) (p3 : Nat) (p4 : Int32) (h : zH) : Option (Int32 × zH) :=
  f_L_law_b4006 E k23 p0 p1 p2 p3 p4 h
theorem w_L_law_b1666 (C0 : zCx p l e R s m args below meth c D B0 8 "FranchiseLedgerLaw" cL_law E 17 417 (Option.some Jvm.ClassFile.FieldType.boolean) "law") {r : Int32} {h' : zH} {k23 : Nat → Nat → Nat → Nat → Int32 → zH → Option (Int32 × zH)} (hk23 : ∀ (p0 : Nat) (p1 : Nat) (p2 : Nat) (p3 : Nat) (p4 : Int32) (h : zH), k23 p0 p1 p2 p3 p4 h = some (r, h') → zW p l e R s m args below meth c D B0 8 (zEnd D B0 R below args s (zoI r) h') h 23 [(0, .ref p0), (1, .ref p1), (2, .ref p2), (3, .ref p3), (4, .int p4)] []) {p0 : Nat} {p1 : Nat} {p2 : Nat} {p3 : Nat} {p4 : Int32} {h : zH} (hf : f_L_law_b1666 E k23 p0 p1 p2 p3 p4 h = some (r, h')) : zW p l e R s m args below meth c D B0 8 (zEnd D B0 R below args s (zoI r) h') h 1666 [(0, .ref p0), (1, .ref p1), (2, .ref p2), (3, .ref p3), (4, .int p4)] [] := by
  unfold f_L_law_b1666 at hf
  refine zr_goto C0 (tgt := 4006) dL_law_1666 (by decide) ?_
  exact w_L_law_b4006 C0 hk23 hf
def f_L_law_b1734 (E : zE) (k23 : Nat → Nat → Nat → Nat → Int32 → zH → Option (Int32 × zH)) (p0 : Nat) (p1 : Nat) (p2 : Nat) (p3 : Nat) (p4 : Int32) (h : zH) : Option (Int32 × zH) :=
  f_L_law_b4006 E k23 p0 p1 p2 p3 p4 h
theorem w_L_law_b1734 (C0 : zCx p l e R s m args below meth c D B0 8 "FranchiseLedgerLaw" cL_law E 17 417 (Option.some Jvm.ClassFile.FieldType.boolean) "law") {r : Int32} {h' : zH} {k23 : Nat → Nat → Nat → Nat → Int32 → zH → Option (Int32 × zH)} (hk23 : ∀ (p0 : Nat) (p1 : Nat) (p2 : Nat) (p3 : Nat) (p4 : Int32) (h : zH), k23 p0 p1 p2 p3 p4 h = some (r, h') → zW p l e R s m args below meth c D B0 8 (zEnd D B0 R below args s (zoI r) h') h 23 [(0, .ref p0), (1, .ref p1), (2, .ref p2), (3, .ref p3), (4, .int p4)] []) {p0 : Nat} {p1 : Nat} {p2 : Nat} {p3 : Nat} {p4 : Int32} {h : zH} (hf : f_L_law_b1734 E k23 p0 p1 p2 p3 p4 h = some (r, h')) : zW p l e R s m args below meth c D B0 8 (zEnd D B0 R below args s (zoI r) h') h 1734 [(0, .ref p0), (1, .ref p1), (2, .ref p2), (3, .ref p3), (4, .int p4)] [] := by
  unfold f_L_law_b1734 at hf
  refine zr_goto C0 (tgt := 4006) dL_law_1734 (by decide) ?_
  exact w_L_law_b4006 C0 hk23 hf
def f_L_law_b1790 (E : zE) (k23 : Nat → Nat → Nat → Nat → Int32 → zH → Option (Int32 × zH)) (p0 : Nat) (p1 : Nat) (p2 : Nat) (p3 : Nat) (p4 : Int32) (h : zH) : Option (Int32 × zH) :=
  f_L_law_b4006 E k23 p0 p1 p2 p3 p4 h
theorem w_L_law_b1790 (C0 : zCx p l e R s m args below meth c D B0 8 "FranchiseLedgerLaw" cL_law E 17 417 (Option.some Jvm.ClassFile.FieldType.boolean) "law") {r : Int32} {h' : zH} {k23 : Nat → Nat → Nat → Nat → Int32 → zH → Option (Int32 × zH)} (hk23 : ∀ (p0 : Nat) (p1 : Nat) (p2 : Nat) (p3 : Nat) (p4 : Int32) (h : zH), k23 p0 p1 p2 p3 p4 h = some (r, h') → zW p l e R s m args below meth c D B0 8 (zEnd D B0 R below args s (zoI r) h') h 23 [(0, .ref p0), (1, .ref p1), (2, .ref p2), (3, .ref p3), (4, .int p4)] []) {p0 : Nat} {p1 : Nat} {p2 : Nat} {p3 : Nat} {p4 : Int32} {h : zH} (hf : f_L_law_b1790 E k23 p0 p1 p2 p3 p4 h = some (r, h')) : zW p l e R s m args below meth c D B0 8 (zEnd D B0 R below args s (zoI r) h') h 1790 [(0, .ref p0), (1, .ref p1), (2, .ref p2), (3, .ref p3), (4, .int p4)] [] := by
  unfold f_L_law_b1790 at hf
  refine zr_goto C0 (tgt := 4006) dL_law_1790 (by decide) ?_
  exact w_L_law_b4006 C0 hk23 hf
def f_L_law_b1889 (E : zE) (k23 : Nat → Nat → Nat → Nat → Int32 → zH → Option (Int32 × zH)) (p0 : Nat) (p1 : Nat) (p2 : Nat) (p3 : Nat) (p4 : Int32) (h : zH) : Option (Int32 × zH) :=
  f_L_law_b4006 E k23 p0 p1 p2 p3 p4 h
theorem w_L_law_b1889 (C0 : zCx p l e R s m args below meth c D B0 8 "FranchiseLedgerLaw" cL_law E 17 417 (Option.some Jvm.ClassFile.FieldType.boolean) "law") {r : Int32} {h' : zH} {k23 : Nat → Nat → Nat → Nat → Int32 → zH → Option (Int32 × zH)} (hk23 : ∀ (p0 : Nat) (p1 : Nat) (p2 : Nat) (p3 : Nat) (p4 : Int32) (h : zH), k23 p0 p1 p2 p3 p4 h = some (r, h') → zW p l e R s m args below meth c D B0 8 (zEnd D B0 R below args s (zoI r) h') h 23 [(0, .ref p0), (1, .ref p1), (2, .ref p2), (3, .ref p3), (4, .int p4)] []) {p0 : Nat} {p1 : Nat} {p2 : Nat} {p3 : Nat} {p4 : Int32} {h : zH} (hf : f_L_law_b1889 E k23 p0 p1 p2 p3 p4 h = some (r, h')) : zW p l e R s m args below meth c D B0 8 (zEnd D B0 R below args s (zoI r) h') h 1889 [(0, .ref p0), (1, .ref p1), (2, .ref p2), (3, .ref p3), (4, .int p4)] [] := by
  unfold f_L_law_b1889 at hf
  refine zr_goto C0 (tgt := 4006) dL_law_1889 (by decide) ?_
  exact w_L_law_b4006 C0 hk23 hf
def f_L_law_b2012 (E : zE) (k23 : Nat → Nat → Nat → Nat → Int32 → zH → Option (Int32 × zH)) (p0 : Nat) (p1 : Nat) (p2 : Nat) (p3 : Nat) (p4 : Int32) (h : zH) : Option (Int32 × zH) :=
  f_L_law_b4006 E k23 p0 p1 p2 p3 p4 h
theorem w_L_law_b2012 (C0 : zCx p l e R s m args below meth c D B0 8 "FranchiseLedgerLaw" cL_law E 17 417 (Option.some Jvm.ClassFile.FieldType.boolean) "law") {r : Int32} {h' : zH} {k23 : Nat → Nat → Nat → Nat → Int32 → zH → Option (Int32 × zH)} (hk23 : ∀ (p0 : Nat) (p1 : Nat) (p2 : Nat) (p3 : Nat) (p4 : Int32) (h : zH), k23 p0 p1 p2 p3 p4 h = some (r, h') → zW p l e R s m args below meth c D B0 8 (zEnd D B0 R below args s (zoI r) h') h 23 [(0, .ref p0), (1, .ref p1), (2, .ref p2), (3, .ref p3), (4, .int p4)] []) {p0 : Nat} {p1 : Nat} {p2 : Nat} {p3 : Nat} {p4 : Int32} {h : zH} (hf : f_L_law_b2012 E k23 p0 p1 p2 p3 p4 h = some (r, h')) : zW p l e R s m args below meth c D B0 8 (zEnd D B0 R below args s (zoI r) h') h 2012 [(0, .ref p0), (1, .ref p1), (2, .ref p2), (3, .ref p3), (4, .int p4)] [] := by
  unfold f_L_law_b2012 at hf
  refine zr_goto C0 (tgt := 4006) dL_law_2012 (by decide) ?_
  exact w_L_law_b4006 C0 hk23 hf
def f_L_law_b2067 (E : zE) (k23 : Nat → Nat → Nat → Nat → Int32 → zH → Option (Int32 × zH)) (p0 : Nat) (p1 : Nat) (p2 : Nat) (p3 : Nat) (p4 : Int32) (h : zH) : Option (Int32 × zH) :=
  f_L_law_b4006 E k23 p0 p1 p2 p3 p4 h
theorem w_L_law_b2067 (C0 : zCx p l e R s m args below meth c D B0 8 "FranchiseLedgerLaw" cL_law E 17 417 (Option.some Jvm.ClassFile.FieldType.boolean) "law") {r : Int32} {h' : zH} {k23 : Nat → Nat → Nat → Nat → Int32 → zH → Option (Int32 × zH)} (hk23 : ∀ (p0 : Nat) (p1 : Nat) (p2 : Nat) (p3 : Nat) (p4 : Int32) (h : zH), k23 p0 p1 p2 p3 p4 h = some (r, h') → zW p l e R s m args below meth c D B0 8 (zEnd D B0 R below args s (zoI r) h') h 23 [(0, .ref p0), (1, .ref p1), (2, .ref p2), (3, .ref p3), (4, .int p4)] []) {p0 : Nat} {p1 : Nat} {p2 : Nat} {p3 : Nat} {p4 : Int32} {h : zH} (hf : f_L_law_b2067 E k23 p0 p1 p2 p3 p4 h = some (r, h')) : zW p l e R s m args below meth c D B0 8 (zEnd D B0 R below args s (zoI r) h') h 2067 [(0, .ref p0), (1, .ref p1), (2, .ref p2), (3, .ref p3), (4, .int p4)] [] := by
  unfold f_L_law_b2067 at hf
  refine zr_goto C0 (tgt := 4006) dL_law_2067 (by decide) ?_
  exact w_L_law_b4006 C0 hk23 hf
def f_L_law_b2134 (E : zE) (k23 : Nat → Nat → Nat → Nat → Int32 → zH → Option (Int32 × zH)) (p0 : Nat) (p1 : Nat) (p2 : Nat) (p3 : Nat) (p4 : Int32) (h : zH) : Option (Int32 × zH) :=
  f_L_law_b4006 E k23 p0 p1 p2 p3 p4 h
theorem w_L_law_b2134 (C0 : zCx p l e R s m args below meth c D B0 8 "FranchiseLedgerLaw" cL_law E 17 417 (Option.some Jvm.ClassFile.FieldType.boolean) "law") {r : Int32} {h' : zH} {k23 : Nat → Nat → Nat → Nat → Int32 → zH → Option (Int32 × zH)} (hk23 : ∀ (p0 : Nat) (p1 : Nat) (p2 : Nat) (p3 : Nat) (p4 : Int32) (h : zH), k23 p0 p1 p2 p3 p4 h = some (r, h') → zW p l e R s m args below meth c D B0 8 (zEnd D B0 R below args s (zoI r) h') h 23 [(0, .ref p0), (1, .ref p1), (2, .ref p2), (3, .ref p3), (4, .int p4)] []) {p0 : Nat} {p1 : Nat} {p2 : Nat} {p3 : Nat} {p4 : Int32} {h : zH} (hf : f_L_law_b2134 E k23 p0 p1 p2 p3 p4 h = some (r, h')) : zW p l e R s m args below meth c D B0 8 (zEnd D B0 R below args s (zoI r) h') h 2134 [(0, .ref p0), (1, .ref p1), (2, .ref p2), (3, .ref p3), (4, .int p4)] [] := by
  unfold f_L_law_b2134 at hf
  refine zr_goto C0 (tgt := 4006) dL_law_2134 (by decide) ?_
  exact w_L_law_b4006 C0 hk23 hf
def f_L_law_b2226 (E : zE) (k23 : Nat → Nat → Nat → Nat → Int32 → zH → Option (Int32 × zH)) (p0 : Nat) (p1 : Nat) (p2 : Nat) (p3 : Nat) (p4 : Int32) (h : zH) : Option (Int32 × zH) :=
  f_L_law_b4006 E k23 p0 p1 p2 p3 p4 h
theorem w_L_law_b2226 (C0 : zCx p l e R s m args below meth c D B0 8 "FranchiseLedgerLaw" cL_law E 17 417 (Option.some Jvm.ClassFile.FieldType.boolean) "law") {r : Int32} {h' : zH} {k23 : Nat → Nat → Nat → Nat → Int32 → zH → Option (Int32 × zH)} (hk23 : ∀ (p0 : Nat) (p1 : Nat) (p2 : Nat) (p3 : Nat) (p4 : Int32) (h : zH), k23 p0 p1 p2 p3 p4 h = some (r, h') → zW p l e R s m args below meth c D B0 8 (zEnd D B0 R below args s (zoI r) h') h 23 [(0, .ref p0), (1, .ref p1), (2, .ref p2), (3, .ref p3), (4, .int p4)] []) {p0 : Nat} {p1 : Nat} {p2 : Nat} {p3 : Nat} {p4 : Int32} {h : zH} (hf : f_L_law_b2226 E k23 p0 p1 p2 p3 p4 h = some (r, h')) : zW p l e R s m args below meth c D B0 8 (zEnd D B0 R below args s (zoI r) h') h 2226 [(0, .ref p0), (1, .ref p1), (2, .ref p2), (3, .ref p3), (4, .int p4)] [] := by
  unfold f_L_law_b2226 at hf
  refine zr_goto C0 (tgt := 4006) dL_law_2226 (by decide) ?_
  exact w_L_law_b4006 C0 hk23 hf
def f_L_law_b2270 (E : zE) (k23 : Nat → Nat → Nat → Nat → Int32 → zH → Option (Int32 × zH)) (p0 : Nat) (p1 : Nat) (p2 : Nat) (p3 : Nat) (p4 : Int32) (h : zH) : Option (Int32 × zH) :=
  f_L_law_b4006 E k23 p0 p1 p2 p3 p4 h
theorem w_L_law_b2270 (C0 : zCx p l e R s m args below meth c D B0 8 "FranchiseLedgerLaw" cL_law E 17 417 (Option.some Jvm.ClassFile.FieldType.boolean) "law") {r : Int32} {h' : zH} {k23 : Nat → Nat → Nat → Nat → Int32 → zH → Option (Int32 × zH)} (hk23 : ∀ (p0 : Nat) (p1 : Nat) (p2 : Nat) (p3 : Nat) (p4 : Int32) (h : zH), k23 p0 p1 p2 p3 p4 h = some (r, h') → zW p l e R s m args below meth c D B0 8 (zEnd D B0 R below args s (zoI r) h') h 23 [(0, .ref p0), (1, .ref p1), (2, .ref p2), (3, .ref p3), (4, .int p4)] []) {p0 : Nat} {p1 : Nat} {p2 : Nat} {p3 : Nat} {p4 : Int32} {h : zH} (hf : f_L_law_b2270 E k23 p0 p1 p2 p3 p4 h = some (r, h')) : zW p l e R s m args below meth c D B0 8 (zEnd D B0 R below args s (zoI r) h') h 2270 [(0, .ref p0), (1, .ref p1), (2, .ref p2), (3, .ref p3), (4, .int p4)] [] := by
  unfold f_L_law_b2270 at hf
  refine zr_goto C0 (tgt := 4006) dL_law_2270 (by decide) ?_
  exact w_L_law_b4006 C0 hk23 hf
def f_L_law_b2349 (E : zE) (k23 : Nat → Nat → Nat → Nat → Int32 → zH → Option (Int32 × zH)) (p0 : Nat) (p1 : Nat) (p2 : Nat) (p3 : Nat) (p4 : Int32) (h : zH) : Option (Int32 × zH) :=
  f_L_law_b4006 E k23 p0 p1 p2 p3 p4 h
theorem w_L_law_b2349 (C0 : zCx p l e R s m args below meth c D B0 8 "FranchiseLedgerLaw" cL_law E 17 417 (Option.some Jvm.ClassFile.FieldType.boolean) "law") {r : Int32} {h' : zH} {k23 : Nat → Nat → Nat → Nat → Int32 → zH → Option (Int32 × zH)} (hk23 : ∀ (p0 : Nat) (p1 : Nat) (p2 : Nat) (p3 : Nat) (p4 : Int32) (h : zH), k23 p0 p1 p2 p3 p4 h = some (r, h') → zW p l e R s m args below meth c D B0 8 (zEnd D B0 R below args s (zoI r) h') h 23 [(0, .ref p0), (1, .ref p1), (2, .ref p2), (3, .ref p3), (4, .int p4)] []) {p0 : Nat} {p1 : Nat} {p2 : Nat} {p3 : Nat} {p4 : Int32} {h : zH} (hf : f_L_law_b2349 E k23 p0 p1 p2 p3 p4 h = some (r, h')) : zW p l e R s m args below meth c D B0 8 (zEnd D B0 R below args s (zoI r) h') h 2349 [(0, .ref p0), (1, .ref p1), (2, .ref p2), (3, .ref p3), (4, .int p4)] [] := by
  unfold f_L_law_b2349 at hf
  refine zr_goto C0 (tgt := 4006) dL_law_2349 (by decide) ?_
  exact w_L_law_b4006 C0 hk23 hf
def f_L_law_b2416 (E : zE) (k23 : Nat → Nat → Nat → Nat → Int32 → zH → Option (Int32 × zH)) (p0 : Nat) (p1 : Nat) (p2 : Nat) (p3 : Nat) (p4 : Int32) (h : zH) : Option (Int32 × zH) :=
  f_L_law_b4006 E k23 p0 p1 p2 p3 p4 h
theorem w_L_law_b2416 (C0 : zCx p l e R s m args below meth c D B0 8 "FranchiseLedgerLaw" cL_law E 17 417 (Option.some Jvm.ClassFile.FieldType.boolean) "law") {r : Int32} {h' : zH} {k23 : Nat → Nat → Nat → Nat → Int32 → zH → Option (Int32 × zH)} (hk23 : ∀ (p0 : Nat) (p1 : Nat) (p2 : Nat) (p3 : Nat) (p4 : Int32) (h : zH), k23 p0 p1 p2 p3 p4 h = some (r, h') → zW p l e R s m args below meth c D B0 8 (zEnd D B0 R below args s (zoI r) h') h 23 [(0, .ref p0), (1, .ref p1), (2, .ref p2), (3, .ref p3), (4, .int p4)] []) {p0 : Nat} {p1 : Nat} {p2 : Nat} {p3 : Nat} {p4 : Int32} {h : zH} (hf : f_L_law_b2416 E k23 p0 p1 p2 p3 p4 h = some (r, h')) : zW p l e R s m args below meth c D B0 8 (zEnd D B0 R below args s (zoI r) h') h 2416 [(0, .ref p0), (1, .ref p1), (2, .ref p2), (3, .ref p3), (4, .int p4)] [] := by
  unfold f_L_law_b2416 at hf
  refine zr_goto C0 (tgt := 4006) dL_law_2416 (by decide) ?_
  exact w_L_law_b4006 C0 hk23 hf
def f_L_law_b2471 (E : zE) (k23 : Nat → Nat → Nat → Nat → Int32 → zH → Option (Int32 × zH)) (p0 : Nat) (p1 : Nat) (p2 : Nat) (p3 : Nat) (p4 : Int32) (h : zH) : Option (Int32 × zH) :=
  f_L_law_b4006 E k23 p0 p1 p2 p3 p4 h
theorem w_L_law_b2471 (C0 : zCx p l e R s m args below meth c D B0 8 "FranchiseLedgerLaw" cL_law E 17 417 (Option.some Jvm.ClassFile.FieldType.boolean) "law") {r : Int32} {h' : zH} {k23 : Nat → Nat → Nat → Nat → Int32 → zH → Option (Int32 × zH)} (hk23 : ∀ (p0 : Nat) (p1 : Nat) (p2 : Nat) (p3 : Nat) (p4 : Int32) (h : zH), k23 p0 p1 p2 p3 p4 h = some (r, h') → zW p l e R s m args below meth c D B0 8 (zEnd D B0 R below args s (zoI r) h') h 23 [(0, .ref p0), (1, .ref p1), (2, .ref p2), (3, .ref p3), (4, .int p4)] []) {p0 : Nat} {p1 : Nat} {p2 : Nat} {p3 : Nat} {p4 : Int32} {h : zH} (hf : f_L_law_b2471 E k23 p0 p1 p2 p3 p4 h = some (r, h')) : zW p l e R s m args below meth c D B0 8 (zEnd D B0 R below args s (zoI r) h') h 2471 [(0, .ref p0), (1, .ref p1), (2, .ref p2), (3, .ref p3), (4, .int p4)] [] := by
  unfold f_L_law_b2471 at hf
  refine zr_goto C0 (tgt := 4006) dL_law_2471 (by decide) ?_
  exact w_L_law_b4006 C0 hk23 hf
def f_L_law_b2584 (E : zE) (k23 : Nat → Nat → Nat → Nat → Int32 → zH → Option (Int32 × zH)) (p0 : Nat) (p1 : Nat) (p2 : Nat) (p3 : Nat) (p4 : Int32) (h : zH) : Option (Int32 × zH) :=
  f_L_law_b4006 E k23 p0 p1 p2 p3 p4 h
theorem w_L_law_b2584 (C0 : zCx p l e R s m args below meth c D B0 8 "FranchiseLedgerLaw" cL_law E 17 417 (Option.some Jvm.ClassFile.FieldType.boolean) "law") {r : Int32} {h' : zH} {k23 : Nat → Nat → Nat → Nat → Int32 → zH → Option (Int32 × zH)} (hk23 : ∀ (p0 : Nat) (p1 : Nat) (p2 : Nat) (p3 : Nat) (p4 : Int32) (h : zH), k23 p0 p1 p2 p3 p4 h = some (r, h') → zW p l e R s m args below meth c D B0 8 (zEnd D B0 R below args s (zoI r) h') h 23 [(0, .ref p0), (1, .ref p1), (2, .ref p2), (3, .ref p3), (4, .int p4)] []) {p0 : Nat} {p1 : Nat} {p2 : Nat} {p3 : Nat} {p4 : Int32} {h : zH} (hf : f_L_law_b2584 E k23 p0 p1 p2 p3 p4 h = some (r, h')) : zW p l e R s m args below meth c D B0 8 (zEnd D B0 R below args s (zoI r) h') h 2584 [(0, .ref p0), (1, .ref p1), (2, .ref p2), (3, .ref p3), (4, .int p4)] [] := by
  unfold f_L_law_b2584 at hf
  refine zr_goto C0 (tgt := 4006) dL_law_2584 (by decide) ?_
  exact w_L_law_b4006 C0 hk23 hf
def f_L_law_b2640 (E : zE) (k23 : Nat → Nat → Nat → Nat → Int32 → zH → Option (Int32 × zH)) (p0 : Nat) (p1 : Nat) (p2 : Nat) (p3 : Nat) (p4 : Int32) (h : zH) : Option (Int32 × zH) :=
  f_L_law_b4006 E k23 p0 p1 p2 p3 p4 h
theorem w_L_law_b2640 (C0 : zCx p l e R s m args below meth c D B0 8 "FranchiseLedgerLaw" cL_law E 17 417 (Option.some Jvm.ClassFile.FieldType.boolean) "law") {r : Int32} {h' : zH} {k23 : Nat → Nat → Nat → Nat → Int32 → zH → Option (Int32 × zH)} (hk23 : ∀ (p0 : Nat) (p1 : Nat) (p2 : Nat) (p3 : Nat) (p4 : Int32) (h : zH), k23 p0 p1 p2 p3 p4 h = some (r, h') → zW p l e R s m args below meth c D B0 8 (zEnd D B0 R below args s (zoI r) h') h 23 [(0, .ref p0), (1, .ref p1), (2, .ref p2), (3, .ref p3), (4, .int p4)] []) {p0 : Nat} {p1 : Nat} {p2 : Nat} {p3 : Nat} {p4 : Int32} {h : zH} (hf : f_L_law_b2640 E k23 p0 p1 p2 p3 p4 h = some (r, h')) : zW p l e R s m args below meth c D B0 8 (zEnd D B0 R below args s (zoI r) h') h 2640 [(0, .ref p0), (1, .ref p1), (2, .ref p2), (3, .ref p3), (4, .int p4)] [] := by
  unfold f_L_law_b2640 at hf
  refine zr_goto C0 (tgt := 4006) dL_law_2640 (by decide) ?_
  exact w_L_law_b4006 C0 hk23 hf
def f_L_law_b2740 (E : zE) (k23 : Nat → Nat → Nat → Nat → Int32 → zH → Option (Int32 × zH)) (p0 : Nat) (p1 : Nat) (p2 : Nat) (p3 : Nat) (p4 : Int32) (h : zH) : Option (Int32 × zH) :=
  f_L_law_b4006 E k23 p0 p1 p2 p3 p4 h
theorem w_L_law_b2740 (C0 : zCx p l e R s m args below meth c D B0 8 "FranchiseLedgerLaw" cL_law E 17 417 (Option.some Jvm.ClassFile.FieldType.boolean) "law") {r : Int32} {h' : zH} {k23 : Nat → Nat → Nat → Nat → Int32 → zH → Option (Int32 × zH)} (hk23 : ∀ (p0 : Nat) (p1 : Nat) (p2 : Nat) (p3 : Nat) (p4 : Int32) (h : zH), k23 p0 p1 p2 p3 p4 h = some (r, h') → zW p l e R s m args below meth c D B0 8 (zEnd D B0 R below args s (zoI r) h') h 23 [(0, .ref p0), (1, .ref p1), (2, .ref p2), (3, .ref p3), (4, .int p4)] []) {p0 : Nat} {p1 : Nat} {p2 : Nat} {p3 : Nat} {p4 : Int32} {h : zH} (hf : f_L_law_b2740 E k23 p0 p1 p2 p3 p4 h = some (r, h')) : zW p l e R s m args below meth c D B0 8 (zEnd D B0 R below args s (zoI r) h') h 2740 [(0, .ref p0), (1, .ref p1), (2, .ref p2), (3, .ref p3), (4, .int p4)] [] := by
  unfold f_L_law_b2740 at hf
  refine zr_goto C0 (tgt := 4006) dL_law_2740 (by decide) ?_
  exact w_L_law_b4006 C0 hk23 hf
def f_L_law_b2803 (E : zE) (k23 : Nat → Nat → Nat → Nat → Int32 → zH → Option (Int32 × zH)) (p0 : Nat) (p1 : Nat) (p2 : Nat) (p3 : Nat) (p4 : Int32) (h : zH) : Option (Int32 × zH) :=
  f_L_law_b4006 E k23 p0 p1 p2 p3 p4 h
theorem w_L_law_b2803 (C0 : zCx p l e R s m args below meth c D B0 8 "FranchiseLedgerLaw" cL_law E 17 417 (Option.some Jvm.ClassFile.FieldType.boolean) "law") {r : Int32} {h' : zH} {k23 : Nat → Nat → Nat → Nat → Int32 → zH → Option (Int32 × zH)} (hk23 : ∀ (p0 : Nat) (p1 : Nat) (p2 : Nat) (p3 : Nat) (p4 : Int32) (h : zH), k23 p0 p1 p2 p3 p4 h = some (r, h') → zW p l e R s m args below meth c D B0 8 (zEnd D B0 R below args s (zoI r) h') h 23 [(0, .ref p0), (1, .ref p1), (2, .ref p2), (3, .ref p3), (4, .int p4)] []) {p0 : Nat} {p1 : Nat} {p2 : Nat} {p3 : Nat} {p4 : Int32} {h : zH} (hf : f_L_law_b2803 E k23 p0 p1 p2 p3 p4 h = some (r, h')) : zW p l e R s m args below meth c D B0 8 (zEnd D B0 R below args s (zoI r) h') h 2803 [(0, .ref p0), (1, .ref p1), (2, .ref p2), (3, .ref p3), (4, .int p4)] [] := by
  unfold f_L_law_b2803 at hf
  refine zr_goto C0 (tgt := 4006) dL_law_2803 (by decide) ?_
  exact w_L_law_b4006 C0 hk23 hf
def f_L_law_b2797 (E : zE) (k23 : Nat → Nat → Nat → Nat → Int32 → zH → Option (Int32 × zH)) (p0 : Nat) (p1 : Nat) (p2 : Nat) (p3 : Nat) (p4 : Int32) (s0 : Int64) (s1 : Int64) (h : zH) : Option (Int32 × zH) :=
  if s0 = s1 then (
    f_L_law_b2803 E k23 p0 p1 p2 p3 p4 h
  ) else (
    some ((0 : Int32), h)
  )
theorem w_L_law_b2797 (C0 : zCx p l e R s m args below meth c D B0 8 "FranchiseLedgerLaw" cL_law E 17 417 (Option.some Jvm.ClassFile.FieldType.boolean) "law") {r : Int32} {h' : zH} {k23 : Nat → Nat → Nat → Nat → Int32 → zH → Option (Int32 × zH)} (hk23 : ∀ (p0 : Nat) (p1 : Nat) (p2 : Nat) (p3 : Nat) (p4 : Int32) (h : zH), k23 p0 p1 p2 p3 p4 h = some (r, h') → zW p l e R s m args below meth c D B0 8 (zEnd D B0 R below args s (zoI r) h') h 23 [(0, .ref p0), (1, .ref p1), (2, .ref p2), (3, .ref p3), (4, .int p4)] []) {p0 : Nat} {p1 : Nat} {p2 : Nat} {p3 : Nat} {p4 : Int32} {s0 : Int64} {s1 : Int64} {h : zH} (hf : f_L_law_b2797 E k23 p0 p1 p2 p3 p4 s0 s1 h = some (r, h')) : zW p l e R s m args below meth c D B0 8 (zEnd D B0 R below args s (zoI r) h') h 2797 [(0, .ref p0), (1, .ref p1), (2, .ref p2), (3, .ref p3), (4, .int p4)] [.long s1, .long s0] := by
  unfold f_L_law_b2797 at hf
  refine zr_lcmp C0 dL_law_2797 ?_
  refine zr_if_eq C0 (tgt := 2803) dL_law_2798 (by decide) (fun c1 => ?_) (fun c1 => ?_)
  · have hf := zif_t (zl_eq.mp c1) hf
    exact w_L_law_b2803 C0 hk23 hf
  · have hf := zif_f (zl_eqn.mp c1) hf
    refine zr_iconst C0 (v := 0) dL_law_2801 (by decide) ?_
    refine zretW hf ?_
    exact zr_iret C0 (ty := .boolean) rfl (by decide) dL_law_2802 rfl
def f_L_law_b2859 (E : zE) (k23 : Nat → Nat → Nat → Nat → Int32 → zH → Option (Int32 × zH)) (p0 : Nat) (p1 : Nat) (p2 : Nat) (p3 : Nat) (p4 : Int32) (h : zH) : Option (Int32 × zH) :=
  f_L_law_b4006 E k23 p0 p1 p2 p3 p4 h
theorem w_L_law_b2859 (C0 : zCx p l e R s m args below meth c D B0 8 "FranchiseLedgerLaw" cL_law E 17 417 (Option.some Jvm.ClassFile.FieldType.boolean) "law") {r : Int32} {h' : zH} {k23 : Nat → Nat → Nat → Nat → Int32 → zH → Option (Int32 × zH)} (hk23 : ∀ (p0 : Nat) (p1 : Nat) (p2 : Nat) (p3 : Nat) (p4 : Int32) (h : zH), k23 p0 p1 p2 p3 p4 h = some (r, h') → zW p l e R s m args below meth c D B0 8 (zEnd D B0 R below args s (zoI r) h') h 23 [(0, .ref p0), (1, .ref p1), (2, .ref p2), (3, .ref p3), (4, .int p4)] []) {p0 : Nat} {p1 : Nat} {p2 : Nat} {p3 : Nat} {p4 : Int32} {h : zH} (hf : f_L_law_b2859 E k23 p0 p1 p2 p3 p4 h = some (r, h')) : zW p l e R s m args below meth c D B0 8 (zEnd D B0 R below args s (zoI r) h') h 2859 [(0, .ref p0), (1, .ref p1), (2, .ref p2), (3, .ref p3), (4, .int p4)] [] := by
  unfold f_L_law_b2859 at hf
  refine zr_goto C0 (tgt := 4006) dL_law_2859 (by decide) ?_
  exact w_L_law_b4006 C0 hk23 hf
def f_L_law_b2928 (E : zE) (k23 : Nat → Nat → Nat → Nat → Int32 → zH → Option (Int32 × zH)) (p0 : Nat) (p1 : Nat) (p2 : Nat) (p3 : Nat) (p4 : Int32) (h : zH) : Option (Int32 × zH) :=
  f_L_law_b4006 E k23 p0 p1 p2 p3 p4 h
theorem w_L_law_b2928 (C0 : zCx p l e R s m args below meth c D B0 8 "FranchiseLedgerLaw" cL_law E 17 417 (Option.some Jvm.ClassFile.FieldType.boolean) "law") {r : Int32} {h' : zH} {k23 : Nat → Nat → Nat → Nat → Int32 → zH → Option (Int32 × zH)} (hk23 : ∀ (p0 : Nat) (p1 : Nat) (p2 : Nat) (p3 : Nat) (p4 : Int32) (h : zH), k23 p0 p1 p2 p3 p4 h = some (r, h') → zW p l e R s m args below meth c D B0 8 (zEnd D B0 R below args s (zoI r) h') h 23 [(0, .ref p0), (1, .ref p1), (2, .ref p2), (3, .ref p3), (4, .int p4)] []) {p0 : Nat} {p1 : Nat} {p2 : Nat} {p3 : Nat} {p4 : Int32} {h : zH} (hf : f_L_law_b2928 E k23 p0 p1 p2 p3 p4 h = some (r, h')) : zW p l e R s m args below meth c D B0 8 (zEnd D B0 R below args s (zoI r) h') h 2928 [(0, .ref p0), (1, .ref p1), (2, .ref p2), (3, .ref p3), (4, .int p4)] [] := by
  unfold f_L_law_b2928 at hf
  refine zr_goto C0 (tgt := 4006) dL_law_2928 (by decide) ?_
  exact w_L_law_b4006 C0 hk23 hf
def f_L_law_b2983 (E : zE) (k23 : Nat → Nat → Nat → Nat → Int32 → zH → Option (Int32 × zH)) (p0 : Nat) (p1 : Nat) (p2 : Nat) (p3 : Nat) (p4 : Int32) (h : zH) : Option (Int32 × zH) :=
  f_L_law_b4006 E k23 p0 p1 p2 p3 p4 h
theorem w_L_law_b2983 (C0 : zCx p l e R s m args below meth c D B0 8 "FranchiseLedgerLaw" cL_law E 17 417 (Option.some Jvm.ClassFile.FieldType.boolean) "law") {r : Int32} {h' : zH} {k23 : Nat → Nat → Nat → Nat → Int32 → zH → Option (Int32 × zH)} (hk23 : ∀ (p0 : Nat) (p1 : Nat) (p2 : Nat) (p3 : Nat) (p4 : Int32) (h : zH), k23 p0 p1 p2 p3 p4 h = some (r, h') → zW p l e R s m args below meth c D B0 8 (zEnd D B0 R below args s (zoI r) h') h 23 [(0, .ref p0), (1, .ref p1), (2, .ref p2), (3, .ref p3), (4, .int p4)] []) {p0 : Nat} {p1 : Nat} {p2 : Nat} {p3 : Nat} {p4 : Int32} {h : zH} (hf : f_L_law_b2983 E k23 p0 p1 p2 p3 p4 h = some (r, h')) : zW p l e R s m args below meth c D B0 8 (zEnd D B0 R below args s (zoI r) h') h 2983 [(0, .ref p0), (1, .ref p1), (2, .ref p2), (3, .ref p3), (4, .int p4)] [] := by
  unfold f_L_law_b2983 at hf
  refine zr_goto C0 (tgt := 4006) dL_law_2983 (by decide) ?_
  exact w_L_law_b4006 C0 hk23 hf
def f_L_law_b3078 (E : zE) (k23 : Nat → Nat → Nat → Nat → Int32 → zH → Option (Int32 × zH)) (p0 : Nat) (p1 : Nat) (p2 : Nat) (p3 : Nat) (p4 : Int32) (h : zH) : Option (Int32 × zH) :=
  f_L_law_b4006 E k23 p0 p1 p2 p3 p4 h
theorem w_L_law_b3078 (C0 : zCx p l e R s m args below meth c D B0 8 "FranchiseLedgerLaw" cL_law E 17 417 (Option.some Jvm.ClassFile.FieldType.boolean) "law") {r : Int32} {h' : zH} {k23 : Nat → Nat → Nat → Nat → Int32 → zH → Option (Int32 × zH)} (hk23 : ∀ (p0 : Nat) (p1 : Nat) (p2 : Nat) (p3 : Nat) (p4 : Int32) (h : zH), k23 p0 p1 p2 p3 p4 h = some (r, h') → zW p l e R s m args below meth c D B0 8 (zEnd D B0 R below args s (zoI r) h') h 23 [(0, .ref p0), (1, .ref p1), (2, .ref p2), (3, .ref p3), (4, .int p4)] []) {p0 : Nat} {p1 : Nat} {p2 : Nat} {p3 : Nat} {p4 : Int32} {h : zH} (hf : f_L_law_b3078 E k23 p0 p1 p2 p3 p4 h = some (r, h')) : zW p l e R s m args below meth c D B0 8 (zEnd D B0 R below args s (zoI r) h') h 3078 [(0, .ref p0), (1, .ref p1), (2, .ref p2), (3, .ref p3), (4, .int p4)] [] := by
  unfold f_L_law_b3078 at hf
  refine zr_goto C0 (tgt := 4006) dL_law_3078 (by decide) ?_
  exact w_L_law_b4006 C0 hk23 hf
def f_L_law_b3072 (E : zE) (k23 : Nat → Nat → Nat → Nat → Int32 → zH → Option (Int32 × zH)) (p0 : Nat) (p1 : Nat) (p2 : Nat) (p3 : Nat) (p4 : Int32) (s0 : Int64) (s1 : Int64) (h : zH) : Option (Int32 × zH) :=
  if s0 = s1 then (
    f_L_law_b3078 E k23 p0 p1 p2 p3 p4 h
  ) else (
    some ((0 : Int32), h)
  )
theorem w_L_law_b3072 (C0 : zCx p l e R s m args below meth c D B0 8 "FranchiseLedgerLaw" cL_law E 17 417 (Option.some Jvm.ClassFile.FieldType.boolean) "law") {r : Int32} {h' : zH} {k23 : Nat → Nat → Nat → Nat → Int32 → zH → Option (Int32 × zH)} (hk23 : ∀ (p0 : Nat) (p1 : Nat) (p2 : Nat) (p3 : Nat) (p4 : Int32) (h : zH), k23 p0 p1 p2 p3 p4 h = some (r, h') → zW p l e R s m args below meth c D B0 8 (zEnd D B0 R below args s (zoI r) h') h 23 [(0, .ref p0), (1, .ref p1), (2, .ref p2), (3, .ref p3), (4, .int p4)] []) {p0 : Nat} {p1 : Nat} {p2 : Nat} {p3 : Nat} {p4 : Int32} {s0 : Int64} {s1 : Int64} {h : zH} (hf : f_L_law_b3072 E k23 p0 p1 p2 p3 p4 s0 s1 h = some (r, h')) : zW p l e R s m args below meth c D B0 8 (zEnd D B0 R below args s (zoI r) h') h 3072 [(0, .ref p0), (1, .ref p1), (2, .ref p2), (3, .ref p3), (4, .int p4)] [.long s1, .long s0] := by
  unfold f_L_law_b3072 at hf
  refine zr_lcmp C0 dL_law_3072 ?_
  refine zr_if_eq C0 (tgt := 3078) dL_law_3073 (by decide) (fun c1 => ?_) (fun c1 => ?_)
  · have hf := zif_t (zl_eq.mp c1) hf
    exact w_L_law_b3078 C0 hk23 hf
  · have hf := zif_f (zl_eqn.mp c1) hf
    refine zr_iconst C0 (v := 0) dL_law_3076 (by decide) ?_
    refine zretW hf ?_
    exact zr_iret C0 (ty := .boolean) rfl (by decide) dL_law_3077 rfl
def f_L_law_b3185 (E : zE) (k23 : Nat → Nat → Nat → Nat → Int32 → zH → Option (Int32 × zH)) (p0 : Nat) (p1 : Nat) (p2 : Nat) (p3 : Nat) (p4 : Int32) (h : zH) : Option (Int32 × zH) :=
  f_L_law_b4006 E k23 p0 p1 p2 p3 p4 h
theorem w_L_law_b3185 (C0 : zCx p l e R s m args below meth c D B0 8 "FranchiseLedgerLaw" cL_law E 17 417 (Option.some Jvm.ClassFile.FieldType.boolean) "law") {r : Int32} {h' : zH} {k23 : Nat → Nat → Nat → Nat → Int32 → zH → Option (Int32 × zH)} (hk23 : ∀ (p0 : Nat) (p1 : Nat) (p2 : Nat) (p3 : Nat) (p4 : Int32) (h : zH), k23 p0 p1 p2 p3 p4 h = some (r, h') → zW p l e R s m args below meth c D B0 8 (zEnd D B0 R below args s (zoI r) h') h 23 [(0, .ref p0), (1, .ref p1), (2, .ref p2), (3, .ref p3), (4, .int p4)] []) {p0 : Nat} {p1 : Nat} {p2 : Nat} {p3 : Nat} {p4 : Int32} {h : zH} (hf : f_L_law_b3185 E k23 p0 p1 p2 p3 p4 h = some (r, h')) : zW p l e R s m args below meth c D B0 8 (zEnd D B0 R below args s (zoI r) h') h 3185 [(0, .ref p0), (1, .ref p1), (2, .ref p2), (3, .ref p3), (4, .int p4)] [] := by
  unfold f_L_law_b3185 at hf
  refine zr_goto C0 (tgt := 4006) dL_law_3185 (by decide) ?_
  exact w_L_law_b4006 C0 hk23 hf
def f_L_law_b3179 (E : zE) (k23 : Nat → Nat → Nat → Nat → Int32 → zH → Option (Int32 × zH)) (p0 : Nat) (p1 : Nat) (p2 : Nat) (p3 : Nat) (p4 : Int32) (s0 : Int64) (s1 : Int64) (h : zH) : Option (Int32 × zH) :=
  if s0 = s1 then (
    f_L_law_b3185 E k23 p0 p1 p2 p3 p4 h
  ) else (
    some ((0 : Int32), h)
  )
theorem w_L_law_b3179 (C0 : zCx p l e R s m args below meth c D B0 8 "FranchiseLedgerLaw" cL_law E 17 417 (Option.some Jvm.ClassFile.FieldType.boolean) "law") {r : Int32} {h' : zH} {k23 : Nat → Nat → Nat → Nat → Int32 → zH → Option (Int32 × zH)} (hk23 : ∀ (p0 : Nat) (p1 : Nat) (p2 : Nat) (p3 : Nat) (p4 : Int32) (h : zH), k23 p0 p1 p2 p3 p4 h = some (r, h') → zW p l e R s m args below meth c D B0 8 (zEnd D B0 R below args s (zoI r) h') h 23 [(0, .ref p0), (1, .ref p1), (2, .ref p2), (3, .ref p3), (4, .int p4)] []) {p0 : Nat} {p1 : Nat} {p2 : Nat} {p3 : Nat} {p4 : Int32} {s0 : Int64} {s1 : Int64} {h : zH} (hf : f_L_law_b3179 E k23 p0 p1 p2 p3 p4 s0 s1 h = some (r, h')) : zW p l e R s m args below meth c D B0 8 (zEnd D B0 R below args s (zoI r) h') h 3179 [(0, .ref p0), (1, .ref p1), (2, .ref p2), (3, .ref p3), (4, .int p4)] [.long s1, .long s0] := by
  unfold f_L_law_b3179 at hf
  refine zr_lcmp C0 dL_law_3179 ?_
  refine zr_if_eq C0 (tgt := 3185) dL_law_3180 (by decide) (fun c1 => ?_) (fun c1 => ?_)
  · have hf := zif_t (zl_eq.mp c1) hf
    exact w_L_law_b3185 C0 hk23 hf
  · have hf := zif_f (zl_eqn.mp c1) hf
    refine zr_iconst C0 (v := 0) dL_law_3183 (by decide) ?_
    refine zretW hf ?_
    exact zr_iret C0 (ty := .boolean) rfl (by decide) dL_law_3184 rfl
def f_L_law_b3240 (E : zE) (k23 : Nat → Nat → Nat → Nat → Int32 → zH → Option (Int32 × zH)) (p0 : Nat) (p1 : Nat) (p2 : Nat) (p3 : Nat) (p4 : Int32) (h : zH) : Option (Int32 × zH) :=
  f_L_law_b4006 E k23 p0 p1 p2 p3 p4 h
theorem w_L_law_b3240 (C0 : zCx p l e R s m args below meth c D B0 8 "FranchiseLedgerLaw" cL_law E 17 417 (Option.some Jvm.ClassFile.FieldType.boolean) "law") {r : Int32} {h' : zH} {k23 : Nat → Nat → Nat → Nat → Int32 → zH → Option (Int32 × zH)} (hk23 : ∀ (p0 : Nat) (p1 : Nat) (p2 : Nat) (p3 : Nat) (p4 : Int32) (h : zH), k23 p0 p1 p2 p3 p4 h = some (r, h') → zW p l e R s m args below meth c D B0 8 (zEnd D B0 R below args s (zoI r) h') h 23 [(0, .ref p0), (1, .ref p1), (2, .ref p2), (3, .ref p3), (4, .int p4)] []) {p0 : Nat} {p1 : Nat} {p2 : Nat} {p3 : Nat} {p4 : Int32} {h : zH} (hf : f_L_law_b3240 E k23 p0 p1 p2 p3 p4 h = some (r, h')) : zW p l e R s m args below meth c D B0 8 (zEnd D B0 R below args s (zoI r) h') h 3240 [(0, .ref p0), (1, .ref p1), (2, .ref p2), (3, .ref p3), (4, .int p4)] [] := by
  unfold f_L_law_b3240 at hf
  refine zr_goto C0 (tgt := 4006) dL_law_3240 (by decide) ?_
  exact w_L_law_b4006 C0 hk23 hf
def f_L_law_b3295 (E : zE) (k23 : Nat → Nat → Nat → Nat → Int32 → zH → Option (Int32 × zH)) (p0 : Nat) (p1 : Nat) (p2 : Nat) (p3 : Nat) (p4 : Int32) (h : zH) : Option (Int32 × zH) :=
  f_L_law_b4006 E k23 p0 p1 p2 p3 p4 h
theorem w_L_law_b3295 (C0 : zCx p l e R s m args below meth c D B0 8 "FranchiseLedgerLaw" cL_law E 17 417 (Option.some Jvm.ClassFile.FieldType.boolean) "law") {r : Int32} {h' : zH} {k23 : Nat → Nat → Nat → Nat → Int32 → zH → Option (Int32 × zH)} (hk23 : ∀ (p0 : Nat) (p1 : Nat) (p2 : Nat) (p3 : Nat) (p4 : Int32) (h : zH), k23 p0 p1 p2 p3 p4 h = some (r, h') → zW p l e R s m args below meth c D B0 8 (zEnd D B0 R below args s (zoI r) h') h 23 [(0, .ref p0), (1, .ref p1), (2, .ref p2), (3, .ref p3), (4, .int p4)] []) {p0 : Nat} {p1 : Nat} {p2 : Nat} {p3 : Nat} {p4 : Int32} {h : zH} (hf : f_L_law_b3295 E k23 p0 p1 p2 p3 p4 h = some (r, h')) : zW p l e R s m args below meth c D B0 8 (zEnd D B0 R below args s (zoI r) h') h 3295 [(0, .ref p0), (1, .ref p1), (2, .ref p2), (3, .ref p3), (4, .int p4)] [] := by
  unfold f_L_law_b3295 at hf
  refine zr_goto C0 (tgt := 4006) dL_law_3295 (by decide) ?_
  exact w_L_law_b4006 C0 hk23 hf
def f_L_law_b3414 (E : zE) (k23 : Nat → Nat → Nat → Nat → Int32 → zH → Option (Int32 × zH)) (p0 : Nat) (p1 : Nat) (p2 : Nat) (p3 : Nat) (p4 : Int32) (h : zH) : Option (Int32 × zH) :=
  f_L_law_b4006 E k23 p0 p1 p2 p3 p4 h
theorem w_L_law_b3414 (C0 : zCx p l e R s m args below meth c D B0 8 "FranchiseLedgerLaw" cL_law E 17 417 (Option.some Jvm.ClassFile.FieldType.boolean) "law") {r : Int32} {h' : zH} {k23 : Nat → Nat → Nat → Nat → Int32 → zH → Option (Int32 × zH)} (hk23 : ∀ (p0 : Nat) (p1 : Nat) (p2 : Nat) (p3 : Nat) (p4 : Int32) (h : zH), k23 p0 p1 p2 p3 p4 h = some (r, h') → zW p l e R s m args below meth c D B0 8 (zEnd D B0 R below args s (zoI r) h') h 23 [(0, .ref p0), (1, .ref p1), (2, .ref p2), (3, .ref p3), (4, .int p4)] []) {p0 : Nat} {p1 : Nat} {p2 : Nat} {p3 : Nat} {p4 : Int32} {h : zH} (hf : f_L_law_b3414 E k23 p0 p1 p2 p3 p4 h = some (r, h')) : zW p l e R s m args below meth c D B0 8 (zEnd D B0 R below args s (zoI r) h') h 3414 [(0, .ref p0), (1, .ref p1), (2, .ref p2), (3, .ref p3), (4, .int p4)] [] := by
  unfold f_L_law_b3414 at hf
  refine zr_goto C0 (tgt := 4006) dL_law_3414 (by decide) ?_
  exact w_L_law_b4006 C0 hk23 hf
def f_L_law_b3408 (E : zE) (k23 : Nat → Nat → Nat → Nat → Int32 → zH → Option (Int32 × zH)) (p0 : Nat) (p1 : Nat) (p2 : Nat) (p3 : Nat) (p4 : Int32) (s0 : Int64) (s1 : Int64) (h : zH) : Option (Int32 × zH) :=
  if s0 = s1 then (
    f_L_law_b3414 E k23 p0 p1 p2 p3 p4 h
  ) else (
    some ((0 : Int32), h)
  )
theorem w_L_law_b3408 (C0 : zCx p l e R s m args below meth c D B0 8 "FranchiseLedgerLaw" cL_law E 17 417 (Option.some Jvm.ClassFile.FieldType.boolean) "law") {r : Int32} {h' : zH} {k23 : Nat → Nat → Nat → Nat → Int32 → zH → Option (Int32 × zH)} (hk23 : ∀ (p0 : Nat) (p1 : Nat) (p2 : Nat) (p3 : Nat) (p4 : Int32) (h : zH), k23 p0 p1 p2 p3 p4 h = some (r, h') → zW p l e R s m args below meth c D B0 8 (zEnd D B0 R below args s (zoI r) h') h 23 [(0, .ref p0), (1, .ref p1), (2, .ref p2), (3, .ref p3), (4, .int p4)] []) {p0 : Nat} {p1 : Nat} {p2 : Nat} {p3 : Nat} {p4 : Int32} {s0 : Int64} {s1 : Int64} {h : zH} (hf : f_L_law_b3408 E k23 p0 p1 p2 p3 p4 s0 s1 h = some (r, h')) : zW p l e R s m args below meth c D B0 8 (zEnd D B0 R below args s (zoI r) h') h 3408 [(0, .ref p0), (1, .ref p1), (2, .ref p2), (3, .ref p3), (4, .int p4)] [.long s1, .long s0] := by
  unfold f_L_law_b3408 at hf
  refine zr_lcmp C0 dL_law_3408 ?_
  refine zr_if_eq C0 (tgt := 3414) dL_law_3409 (by decide) (fun c1 => ?_) (fun c1 => ?_)
  · have hf := zif_t (zl_eq.mp c1) hf
    exact w_L_law_b3414 C0 hk23 hf
  · have hf := zif_f (zl_eqn.mp c1) hf
    refine zr_iconst C0 (v := 0) dL_law_3412 (by decide) ?_
    refine zretW hf ?_
    exact zr_iret C0 (ty := .boolean) rfl (by decide) dL_law_3413 rfl
def f_L_law_b3510 (E : zE) (k23 : Nat → Nat → Nat → Nat → Int32 → zH → Option (Int32 × zH)) (p0 : Nat) (p1 : Nat) (p2 : Nat) (p3 : Nat) (p4 : Int32) (h : zH) : Option (Int32 × zH) :=
  f_L_law_b4006 E k23 p0 p1 p2 p3 p4 h
theorem w_L_law_b3510 (C0 : zCx p l e R s m args below meth c D B0 8 "FranchiseLedgerLaw" cL_law E 17 417 (Option.some Jvm.ClassFile.FieldType.boolean) "law") {r : Int32} {h' : zH} {k23 : Nat → Nat → Nat → Nat → Int32 → zH → Option (Int32 × zH)} (hk23 : ∀ (p0 : Nat) (p1 : Nat) (p2 : Nat) (p3 : Nat) (p4 : Int32) (h : zH), k23 p0 p1 p2 p3 p4 h = some (r, h') → zW p l e R s m args below meth c D B0 8 (zEnd D B0 R below args s (zoI r) h') h 23 [(0, .ref p0), (1, .ref p1), (2, .ref p2), (3, .ref p3), (4, .int p4)] []) {p0 : Nat} {p1 : Nat} {p2 : Nat} {p3 : Nat} {p4 : Int32} {h : zH} (hf : f_L_law_b3510 E k23 p0 p1 p2 p3 p4 h = some (r, h')) : zW p l e R s m args below meth c D B0 8 (zEnd D B0 R below args s (zoI r) h') h 3510 [(0, .ref p0), (1, .ref p1), (2, .ref p2), (3, .ref p3), (4, .int p4)] [] := by
  unfold f_L_law_b3510 at hf
  refine zr_goto C0 (tgt := 4006) dL_law_3510 (by decide) ?_
  exact w_L_law_b4006 C0 hk23 hf
def f_L_law_b3477 (E : zE) (k23 : Nat → Nat → Nat → Nat → Int32 → zH → Option (Int32 × zH)) (p0 : Nat) (p1 : Nat) (p2 : Nat) (p3 : Nat) (p4 : Int32) (p5 : Int32) (s0 : Nat) (s1 : Int32) (s2 : Int32) (s3 : Int32) (h : zH) : Option (Int32 × zH) :=
  (cko h s0 1).bind fun _ =>
  bnd2 (f_X6_vote E s0 s1 s2 s3 h) fun x4 h2 =>
  (cko h2 p2 1).bind fun _ =>
  bnd2 (f_X6_thrown E p2 h2) fun x8 h6 =>
  if x8 = p5 then (
    if p5 = 0 then (
      (dL h6 p3 (0 : Int32)).bind fun x11 =>
      if x11 = (x4.toInt64) then (
        f_L_law_b3510 E k23 p0 p1 p2 p3 p4 h6
      ) else (
        some ((0 : Int32), h6)
      )
    ) else (
      f_L_law_b3510 E k23 p0 p1 p2 p3 p4 h6
    )
  ) else (
    some ((0 : Int32), h6)
  )
theorem w_L_law_b3477 (C0 : zCx p l e R s m args below meth c D B0 8 "FranchiseLedgerLaw" cL_law E 17 417 (Option.some Jvm.ClassFile.FieldType.boolean) "law") {r : Int32} {h' : zH} {k23 : Nat → Nat → Nat → Nat → Int32 → zH → Option (Int32 × zH)} (hk23 : ∀ (p0 : Nat) (p1 : Nat) (p2 : Nat) (p3 : Nat) (p4 : Int32) (h : zH), k23 p0 p1 p2 p3 p4 h = some (r, h') → zW p l e R s m args below meth c D B0 8 (zEnd D B0 R below args s (zoI r) h') h 23 [(0, .ref p0), (1, .ref p1), (2, .ref p2), (3, .ref p3), (4, .int p4)] []) {p0 : Nat} {p1 : Nat} {p2 : Nat} {p3 : Nat} {p4 : Int32} {p5 : Int32} {s0 : Nat} {s1 : Int32} {s2 : Int32} {s3 : Int32} {h : zH} (hf : f_L_law_b3477 E k23 p0 p1 p2 p3 p4 p5 s0 s1 s2 s3 h = some (r, h')) : zW p l e R s m args below meth c D B0 8 (zEnd D B0 R below args s (zoI r) h') h 3477 [(0, .ref p0), (1, .ref p1), (2, .ref p2), (3, .ref p3), (4, .int p4), (5, .int p5)] [.int s3, .int s2, .int s1, .ref s0] := by
  unfold f_L_law_b3477 at hf
  obtain ⟨_, e1, hf⟩ := zbind hf
  obtain ⟨x4, h2, e3, hf⟩ := zbind2 hf
  refine zr_callV_r C0 cv_X0_368_X6 rfl (zcko e1) (m_X6_vote C0.2.2.2.2.2.2.1 e3) (by decide) (by decide) rfl rfl (Nat.le_of_ble_eq_true rfl) dL_law_3477 rfl ?_
  refine zr_istore (i := 6) (lv' := [(6, .int x4), (0, .ref p0), (1, .ref p1), (2, .ref p2), (3, .ref p3), (4, .int p4), (5, .int p5)]) C0 dL_law_3480 (by decide) (by first | rfl | simp [zst1, zst2, zcat_rf]) ?_
  refine zr_aload_n C0 dL_law_3482 rfl 3 rfl ?_
  obtain ⟨_, e5, hf⟩ := zbind hf
  obtain ⟨x8, h6, e7, hf⟩ := zbind2 hf
  refine zr_callV_r C0 cv_X0_214_X6 rfl (zcko e5) (m_X6_thrown C0.2.2.2.2.2.2.1 e7) (by decide) (by decide) rfl rfl (Nat.le_of_ble_eq_true rfl) dL_law_3483 rfl ?_
  refine zr_iload C0 dL_law_3486 6 rfl ?_
  refine zr_icmp_eq C0 (tgt := 3493) dL_law_3488 (by decide) (fun c9 => ?_) (fun c9 => ?_)
  · have hf := zif_t c9 hf
    refine zr_iload C0 dL_law_3493 6 rfl ?_
    refine zr_if_ne C0 (tgt := 3510) dL_law_3495 (by decide) (fun c10 => ?_) (fun c10 => ?_)
    · have hf := zif_f c10 hf
      refine zr_sub [1, 2, 3, 4, 5] rfl ?_
      exact w_L_law_b3510 C0 hk23 hf
    · have hf := zif_t c10 hf
      refine zr_aload_n C0 dL_law_3498 rfl 4 rfl ?_
      refine zr_iconst C0 (v := 0) dL_law_3499 (by decide) ?_
      obtain ⟨x11, e12, hf⟩ := zbind hf
      refine zr_lald C0 dL_law_3500 e12 ?_
      refine zr_iload C0 dL_law_3501 0 rfl ?_
      refine zr_i2l C0 dL_law_3503 ?_
      refine zr_lcmp C0 dL_law_3504 ?_
      refine zr_if_eq C0 (tgt := 3510) dL_law_3505 (by decide) (fun c13 => ?_) (fun c13 => ?_)
      · have hf := zif_t (zl_eq.mp c13) hf
        refine zr_sub [1, 2, 3, 4, 5] rfl ?_
        exact w_L_law_b3510 C0 hk23 hf
      · have hf := zif_f (zl_eqn.mp c13) hf
        refine zr_iconst C0 (v := 0) dL_law_3508 (by decide) ?_
        refine zretW hf ?_
        exact zr_iret C0 (ty := .boolean) rfl (by decide) dL_law_3509 rfl
  · have hf := zif_f c9 hf
    refine zr_iconst C0 (v := 0) dL_law_3491 (by decide) ?_
    refine zretW hf ?_
    exact zr_iret C0 (ty := .boolean) rfl (by decide) dL_law_3492 rfl
def f_L_law_b3444 (E : zE) (k23 : Nat → Nat → Nat → Nat → Int32 → zH → Option (Int32 × zH)) (p0 : Nat) (p1 : Nat) (p2 : Nat) (p3 : Nat) (p4 : Int32) (s0 : Nat) (s1 : Int32) (s2 : Int32) (s3 : Int32) (h : zH) : Option (Int32 × zH) :=
  bnd2 (f_X0_vote E s0 s1 s2 s3 p3 h) fun x3 h1 =>
  (dI h1 p0 0 (p4 + (1 : Int32))).bind fun x4 =>
  (dI h1 p0 0 (p4 + (2 : Int32))).bind fun x6 =>
  (dI h1 p0 0 (p4 + (3 : Int32))).bind fun x8 =>
  if x8 = 0 then (
    f_L_law_b3477 E k23 p0 p1 p2 p3 p4 x3 p2 x4 x6 (0 : Int32) h1
  ) else (
    f_L_law_b3477 E k23 p0 p1 p2 p3 p4 x3 p2 x4 x6 (1 : Int32) h1
  )
theorem w_L_law_b3444 (C0 : zCx p l e R s m args below meth c D B0 8 "FranchiseLedgerLaw" cL_law E 17 417 (Option.some Jvm.ClassFile.FieldType.boolean) "law") {r : Int32} {h' : zH} {k23 : Nat → Nat → Nat → Nat → Int32 → zH → Option (Int32 × zH)} (hk23 : ∀ (p0 : Nat) (p1 : Nat) (p2 : Nat) (p3 : Nat) (p4 : Int32) (h : zH), k23 p0 p1 p2 p3 p4 h = some (r, h') → zW p l e R s m args below meth c D B0 8 (zEnd D B0 R below args s (zoI r) h') h 23 [(0, .ref p0), (1, .ref p1), (2, .ref p2), (3, .ref p3), (4, .int p4)] []) {p0 : Nat} {p1 : Nat} {p2 : Nat} {p3 : Nat} {p4 : Int32} {s0 : Nat} {s1 : Int32} {s2 : Int32} {s3 : Int32} {h : zH} (hf : f_L_law_b3444 E k23 p0 p1 p2 p3 p4 s0 s1 s2 s3 h = some (r, h')) : zW p l e R s m args below meth c D B0 8 (zEnd D B0 R below args s (zoI r) h') h 3444 [(0, .ref p0), (1, .ref p1), (2, .ref p2), (3, .ref p3), (4, .int p4)] [.int s3, .int s2, .int s1, .ref s0] := by
  unfold f_L_law_b3444 at hf
  refine zr_aload_n C0 dL_law_3444 rfl 3 rfl ?_
  obtain ⟨x3, h1, e2, hf⟩ := zbind2 hf
  refine zr_callSX_r C0 cv_X0_365 (m_X0_vote C0.2.2.2.2.2.2.1 e2) (by decide) (by decide) rfl rfl (Nat.le_of_ble_eq_true rfl) dL_law_3445 rfl ?_
  refine zr_istore (i := 5) (lv' := [(5, .int x3), (0, .ref p0), (1, .ref p1), (2, .ref p2), (3, .ref p3), (4, .int p4)]) C0 dL_law_3448 (by decide) (by first | rfl | simp [zst1, zst2, zcat_rf]) ?_
  refine zr_aload_n C0 dL_law_3450 rfl 3 rfl ?_
  refine zr_aload_n C0 dL_law_3451 rfl 1 rfl ?_
  refine zr_iload C0 dL_law_3452 5 rfl ?_
  refine zr_iconst C0 (v := 1) dL_law_3454 (by decide) ?_
  refine zr_iadd C0 dL_law_3455 ?_
  obtain ⟨x4, e5, hf⟩ := zbind hf
  refine zr_iald C0 dL_law_3456 e5 ?_
  refine zr_aload_n C0 dL_law_3457 rfl 1 rfl ?_
  refine zr_iload C0 dL_law_3458 5 rfl ?_
  refine zr_iconst C0 (v := 2) dL_law_3460 (by decide) ?_
  refine zr_iadd C0 dL_law_3461 ?_
  obtain ⟨x6, e7, hf⟩ := zbind hf
  refine zr_iald C0 dL_law_3462 e7 ?_
  refine zr_aload_n C0 dL_law_3463 rfl 1 rfl ?_
  refine zr_iload C0 dL_law_3464 5 rfl ?_
  refine zr_iconst C0 (v := 3) dL_law_3466 (by decide) ?_
  refine zr_iadd C0 dL_law_3467 ?_
  obtain ⟨x8, e9, hf⟩ := zbind hf
  refine zr_iald C0 dL_law_3468 e9 ?_
  refine zr_if_eq C0 (tgt := 3476) dL_law_3469 (by decide) (fun c10 => ?_) (fun c10 => ?_)
  · have hf := zif_t c10 hf
    refine zr_iconst C0 (v := 0) dL_law_3476 (by decide) ?_
    refine zr_sub [1, 2, 3, 4, 5, 0] rfl ?_
    exact w_L_law_b3477 C0 hk23 hf
  · have hf := zif_f c10 hf
    refine zr_iconst C0 (v := 1) dL_law_3472 (by decide) ?_
    refine zr_goto C0 (tgt := 3477) dL_law_3473 (by decide) ?_
    refine zr_sub [1, 2, 3, 4, 5, 0] rfl ?_
    exact w_L_law_b3477 C0 hk23 hf
def f_L_law_b3573 (E : zE) (k23 : Nat → Nat → Nat → Nat → Int32 → zH → Option (Int32 × zH)) (p0 : Nat) (p1 : Nat) (p2 : Nat) (p3 : Nat) (p4 : Int32) (h : zH) : Option (Int32 × zH) :=
  f_L_law_b4006 E k23 p0 p1 p2 p3 p4 h
theorem w_L_law_b3573 (C0 : zCx p l e R s m args below meth c D B0 8 "FranchiseLedgerLaw" cL_law E 17 417 (Option.some Jvm.ClassFile.FieldType.boolean) "law") {r : Int32} {h' : zH} {k23 : Nat → Nat → Nat → Nat → Int32 → zH → Option (Int32 × zH)} (hk23 : ∀ (p0 : Nat) (p1 : Nat) (p2 : Nat) (p3 : Nat) (p4 : Int32) (h : zH), k23 p0 p1 p2 p3 p4 h = some (r, h') → zW p l e R s m args below meth c D B0 8 (zEnd D B0 R below args s (zoI r) h') h 23 [(0, .ref p0), (1, .ref p1), (2, .ref p2), (3, .ref p3), (4, .int p4)] []) {p0 : Nat} {p1 : Nat} {p2 : Nat} {p3 : Nat} {p4 : Int32} {h : zH} (hf : f_L_law_b3573 E k23 p0 p1 p2 p3 p4 h = some (r, h')) : zW p l e R s m args below meth c D B0 8 (zEnd D B0 R below args s (zoI r) h') h 3573 [(0, .ref p0), (1, .ref p1), (2, .ref p2), (3, .ref p3), (4, .int p4)] [] := by
  unfold f_L_law_b3573 at hf
  refine zr_goto C0 (tgt := 4006) dL_law_3573 (by decide) ?_
  exact w_L_law_b4006 C0 hk23 hf
def f_L_law_b3567 (E : zE) (k23 : Nat → Nat → Nat → Nat → Int32 → zH → Option (Int32 × zH)) (p0 : Nat) (p1 : Nat) (p2 : Nat) (p3 : Nat) (p4 : Int32) (s0 : Int64) (s1 : Int64) (h : zH) : Option (Int32 × zH) :=
  if s0 = s1 then (
    f_L_law_b3573 E k23 p0 p1 p2 p3 p4 h
  ) else (
    some ((0 : Int32), h)
  )
theorem w_L_law_b3567 (C0 : zCx p l e R s m args below meth c D B0 8 "FranchiseLedgerLaw" cL_law E 17 417 (Option.some Jvm.ClassFile.FieldType.boolean) "law") {r : Int32} {h' : zH} {k23 : Nat → Nat → Nat → Nat → Int32 → zH → Option (Int32 × zH)} (hk23 : ∀ (p0 : Nat) (p1 : Nat) (p2 : Nat) (p3 : Nat) (p4 : Int32) (h : zH), k23 p0 p1 p2 p3 p4 h = some (r, h') → zW p l e R s m args below meth c D B0 8 (zEnd D B0 R below args s (zoI r) h') h 23 [(0, .ref p0), (1, .ref p1), (2, .ref p2), (3, .ref p3), (4, .int p4)] []) {p0 : Nat} {p1 : Nat} {p2 : Nat} {p3 : Nat} {p4 : Int32} {s0 : Int64} {s1 : Int64} {h : zH} (hf : f_L_law_b3567 E k23 p0 p1 p2 p3 p4 s0 s1 h = some (r, h')) : zW p l e R s m args below meth c D B0 8 (zEnd D B0 R below args s (zoI r) h') h 3567 [(0, .ref p0), (1, .ref p1), (2, .ref p2), (3, .ref p3), (4, .int p4)] [.long s1, .long s0] := by
  unfold f_L_law_b3567 at hf
  refine zr_lcmp C0 dL_law_3567 ?_
  refine zr_if_eq C0 (tgt := 3573) dL_law_3568 (by decide) (fun c1 => ?_) (fun c1 => ?_)
  · have hf := zif_t (zl_eq.mp c1) hf
    exact w_L_law_b3573 C0 hk23 hf
  · have hf := zif_f (zl_eqn.mp c1) hf
    refine zr_iconst C0 (v := 0) dL_law_3571 (by decide) ?_
    refine zretW hf ?_
    exact zr_iret C0 (ty := .boolean) rfl (by decide) dL_law_3572 rfl
def f_L_law_b3636 (E : zE) (k23 : Nat → Nat → Nat → Nat → Int32 → zH → Option (Int32 × zH)) (p0 : Nat) (p1 : Nat) (p2 : Nat) (p3 : Nat) (p4 : Int32) (h : zH) : Option (Int32 × zH) :=
  f_L_law_b4006 E k23 p0 p1 p2 p3 p4 h
theorem w_L_law_b3636 (C0 : zCx p l e R s m args below meth c D B0 8 "FranchiseLedgerLaw" cL_law E 17 417 (Option.some Jvm.ClassFile.FieldType.boolean) "law") {r : Int32} {h' : zH} {k23 : Nat → Nat → Nat → Nat → Int32 → zH → Option (Int32 × zH)} (hk23 : ∀ (p0 : Nat) (p1 : Nat) (p2 : Nat) (p3 : Nat) (p4 : Int32) (h : zH), k23 p0 p1 p2 p3 p4 h = some (r, h') → zW p l e R s m args below meth c D B0 8 (zEnd D B0 R below args s (zoI r) h') h 23 [(0, .ref p0), (1, .ref p1), (2, .ref p2), (3, .ref p3), (4, .int p4)] []) {p0 : Nat} {p1 : Nat} {p2 : Nat} {p3 : Nat} {p4 : Int32} {h : zH} (hf : f_L_law_b3636 E k23 p0 p1 p2 p3 p4 h = some (r, h')) : zW p l e R s m args below meth c D B0 8 (zEnd D B0 R below args s (zoI r) h') h 3636 [(0, .ref p0), (1, .ref p1), (2, .ref p2), (3, .ref p3), (4, .int p4)] [] := by
  unfold f_L_law_b3636 at hf
  refine zr_goto C0 (tgt := 4006) dL_law_3636 (by decide) ?_
  exact w_L_law_b4006 C0 hk23 hf
def f_L_law_b3630 (E : zE) (k23 : Nat → Nat → Nat → Nat → Int32 → zH → Option (Int32 × zH)) (p0 : Nat) (p1 : Nat) (p2 : Nat) (p3 : Nat) (p4 : Int32) (s0 : Int64) (s1 : Int64) (h : zH) : Option (Int32 × zH) :=
  if s0 = s1 then (
    f_L_law_b3636 E k23 p0 p1 p2 p3 p4 h
  ) else (
    some ((0 : Int32), h)
  )
theorem w_L_law_b3630 (C0 : zCx p l e R s m args below meth c D B0 8 "FranchiseLedgerLaw" cL_law E 17 417 (Option.some Jvm.ClassFile.FieldType.boolean) "law") {r : Int32} {h' : zH} {k23 : Nat → Nat → Nat → Nat → Int32 → zH → Option (Int32 × zH)} (hk23 : ∀ (p0 : Nat) (p1 : Nat) (p2 : Nat) (p3 : Nat) (p4 : Int32) (h : zH), k23 p0 p1 p2 p3 p4 h = some (r, h') → zW p l e R s m args below meth c D B0 8 (zEnd D B0 R below args s (zoI r) h') h 23 [(0, .ref p0), (1, .ref p1), (2, .ref p2), (3, .ref p3), (4, .int p4)] []) {p0 : Nat} {p1 : Nat} {p2 : Nat} {p3 : Nat} {p4 : Int32} {s0 : Int64} {s1 : Int64} {h : zH} (hf : f_L_law_b3630 E k23 p0 p1 p2 p3 p4 s0 s1 h = some (r, h')) : zW p l e R s m args below meth c D B0 8 (zEnd D B0 R below args s (zoI r) h') h 3630 [(0, .ref p0), (1, .ref p1), (2, .ref p2), (3, .ref p3), (4, .int p4)] [.long s1, .long s0] := by
  unfold f_L_law_b3630 at hf
  refine zr_lcmp C0 dL_law_3630 ?_
  refine zr_if_eq C0 (tgt := 3636) dL_law_3631 (by decide) (fun c1 => ?_) (fun c1 => ?_)
  · have hf := zif_t (zl_eq.mp c1) hf
    exact w_L_law_b3636 C0 hk23 hf
  · have hf := zif_f (zl_eqn.mp c1) hf
    refine zr_iconst C0 (v := 0) dL_law_3634 (by decide) ?_
    refine zretW hf ?_
    exact zr_iret C0 (ty := .boolean) rfl (by decide) dL_law_3635 rfl
def f_L_law_b3692 (E : zE) (k23 : Nat → Nat → Nat → Nat → Int32 → zH → Option (Int32 × zH)) (p0 : Nat) (p1 : Nat) (p2 : Nat) (p3 : Nat) (p4 : Int32) (h : zH) : Option (Int32 × zH) :=
  f_L_law_b4006 E k23 p0 p1 p2 p3 p4 h
theorem w_L_law_b3692 (C0 : zCx p l e R s m args below meth c D B0 8 "FranchiseLedgerLaw" cL_law E 17 417 (Option.some Jvm.ClassFile.FieldType.boolean) "law") {r : Int32} {h' : zH} {k23 : Nat → Nat → Nat → Nat → Int32 → zH → Option (Int32 × zH)} (hk23 : ∀ (p0 : Nat) (p1 : Nat) (p2 : Nat) (p3 : Nat) (p4 : Int32) (h : zH), k23 p0 p1 p2 p3 p4 h = some (r, h') → zW p l e R s m args below meth c D B0 8 (zEnd D B0 R below args s (zoI r) h') h 23 [(0, .ref p0), (1, .ref p1), (2, .ref p2), (3, .ref p3), (4, .int p4)] []) {p0 : Nat} {p1 : Nat} {p2 : Nat} {p3 : Nat} {p4 : Int32} {h : zH} (hf : f_L_law_b3692 E k23 p0 p1 p2 p3 p4 h = some (r, h')) : zW p l e R s m args below meth c D B0 8 (zEnd D B0 R below args s (zoI r) h') h 3692 [(0, .ref p0), (1, .ref p1), (2, .ref p2), (3, .ref p3), (4, .int p4)] [] := by
  unfold f_L_law_b3692 at hf
  refine zr_goto C0 (tgt := 4006) dL_law_3692 (by decide) ?_
  exact w_L_law_b4006 C0 hk23 hf
def f_L_law_b3748 (E : zE) (k23 : Nat → Nat → Nat → Nat → Int32 → zH → Option (Int32 × zH)) (p0 : Nat) (p1 : Nat) (p2 : Nat) (p3 : Nat) (p4 : Int32) (h : zH) : Option (Int32 × zH) :=
  f_L_law_b4006 E k23 p0 p1 p2 p3 p4 h
theorem w_L_law_b3748 (C0 : zCx p l e R s m args below meth c D B0 8 "FranchiseLedgerLaw" cL_law E 17 417 (Option.some Jvm.ClassFile.FieldType.boolean) "law") {r : Int32} {h' : zH} {k23 : Nat → Nat → Nat → Nat → Int32 → zH → Option (Int32 × zH)} (hk23 : ∀ (p0 : Nat) (p1 : Nat) (p2 : Nat) (p3 : Nat) (p4 : Int32) (h : zH), k23 p0 p1 p2 p3 p4 h = some (r, h') → zW p l e R s m args below meth c D B0 8 (zEnd D B0 R below args s (zoI r) h') h 23 [(0, .ref p0), (1, .ref p1), (2, .ref p2), (3, .ref p3), (4, .int p4)] []) {p0 : Nat} {p1 : Nat} {p2 : Nat} {p3 : Nat} {p4 : Int32} {h : zH} (hf : f_L_law_b3748 E k23 p0 p1 p2 p3 p4 h = some (r, h')) : zW p l e R s m args below meth c D B0 8 (zEnd D B0 R below args s (zoI r) h') h 3748 [(0, .ref p0), (1, .ref p1), (2, .ref p2), (3, .ref p3), (4, .int p4)] [] := by
  unfold f_L_law_b3748 at hf
  refine zr_goto C0 (tgt := 4006) dL_law_3748 (by decide) ?_
  exact w_L_law_b4006 C0 hk23 hf
def f_L_law_b3804 (E : zE) (k23 : Nat → Nat → Nat → Nat → Int32 → zH → Option (Int32 × zH)) (p0 : Nat) (p1 : Nat) (p2 : Nat) (p3 : Nat) (p4 : Int32) (h : zH) : Option (Int32 × zH) :=
  f_L_law_b4006 E k23 p0 p1 p2 p3 p4 h
theorem w_L_law_b3804 (C0 : zCx p l e R s m args below meth c D B0 8 "FranchiseLedgerLaw" cL_law E 17 417 (Option.some Jvm.ClassFile.FieldType.boolean) "law") {r : Int32} {h' : zH} {k23 : Nat → Nat → Nat → Nat → Int32 → zH → Option (Int32 × zH)} (hk23 : ∀ (p0 : Nat) (p1 : Nat) (p2 : Nat) (p3 : Nat) (p4 : Int32) (h : zH), k23 p0 p1 p2 p3 p4 h = some (r, h') → zW p l e R s m args below meth c D B0 8 (zEnd D B0 R below args s (zoI r) h') h 23 [(0, .ref p0), (1, .ref p1), (2, .ref p2), (3, .ref p3), (4, .int p4)] []) {p0 : Nat} {p1 : Nat} {p2 : Nat} {p3 : Nat} {p4 : Int32} {h : zH} (hf : f_L_law_b3804 E k23 p0 p1 p2 p3 p4 h = some (r, h')) : zW p l e R s m args below meth c D B0 8 (zEnd D B0 R below args s (zoI r) h') h 3804 [(0, .ref p0), (1, .ref p1), (2, .ref p2), (3, .ref p3), (4, .int p4)] [] := by
  unfold f_L_law_b3804 at hf
  refine zr_goto C0 (tgt := 4006) dL_law_3804 (by decide) ?_
  exact w_L_law_b4006 C0 hk23 hf
def f_L_law_b3860 (E : zE) (k23 : Nat → Nat → Nat → Nat → Int32 → zH → Option (Int32 × zH)) (p0 : Nat) (p1 : Nat) (p2 : Nat) (p3 : Nat) (p4 : Int32) (h : zH) : Option (Int32 × zH) :=
  f_L_law_b4006 E k23 p0 p1 p2 p3 p4 h
theorem w_L_law_b3860 (C0 : zCx p l e R s m args below meth c D B0 8 "FranchiseLedgerLaw" cL_law E 17 417 (Option.some Jvm.ClassFile.FieldType.boolean) "law") {r : Int32} {h' : zH} {k23 : Nat → Nat → Nat → Nat → Int32 → zH → Option (Int32 × zH)} (hk23 : ∀ (p0 : Nat) (p1 : Nat) (p2 : Nat) (p3 : Nat) (p4 : Int32) (h : zH), k23 p0 p1 p2 p3 p4 h = some (r, h') → zW p l e R s m args below meth c D B0 8 (zEnd D B0 R below args s (zoI r) h') h 23 [(0, .ref p0), (1, .ref p1), (2, .ref p2), (3, .ref p3), (4, .int p4)] []) {p0 : Nat} {p1 : Nat} {p2 : Nat} {p3 : Nat} {p4 : Int32} {h : zH} (hf : f_L_law_b3860 E k23 p0 p1 p2 p3 p4 h = some (r, h')) : zW p l e R s m args below meth c D B0 8 (zEnd D B0 R below args s (zoI r) h') h 3860 [(0, .ref p0), (1, .ref p1), (2, .ref p2), (3, .ref p3), (4, .int p4)] [] := by
  unfold f_L_law_b3860 at hf
  refine zr_goto C0 (tgt := 4006) dL_law_3860 (by decide) ?_
  exact w_L_law_b4006 C0 hk23 hf
def f_L_law_b3978 (E : zE) (k23 : Nat → Nat → Nat → Nat → Int32 → zH → Option (Int32 × zH)) (p0 : Nat) (p1 : Nat) (p2 : Nat) (p3 : Nat) (p4 : Int32) (h : zH) : Option (Int32 × zH) :=
  f_L_law_b4006 E k23 p0 p1 p2 p3 p4 h
theorem w_L_law_b3978 (C0 : zCx p l e R s m args below meth c D B0 8 "FranchiseLedgerLaw" cL_law E 17 417 (Option.some Jvm.ClassFile.FieldType.boolean) "law") {r : Int32} {h' : zH} {k23 : Nat → Nat → Nat → Nat → Int32 → zH → Option (Int32 × zH)} (hk23 : ∀ (p0 : Nat) (p1 : Nat) (p2 : Nat) (p3 : Nat) (p4 : Int32) (h : zH), k23 p0 p1 p2 p3 p4 h = some (r, h') → zW p l e R s m args below meth c D B0 8 (zEnd D B0 R below args s (zoI r) h') h 23 [(0, .ref p0), (1, .ref p1), (2, .ref p2), (3, .ref p3), (4, .int p4)] []) {p0 : Nat} {p1 : Nat} {p2 : Nat} {p3 : Nat} {p4 : Int32} {h : zH} (hf : f_L_law_b3978 E k23 p0 p1 p2 p3 p4 h = some (r, h')) : zW p l e R s m args below meth c D B0 8 (zEnd D B0 R below args s (zoI r) h') h 3978 [(0, .ref p0), (1, .ref p1), (2, .ref p2), (3, .ref p3), (4, .int p4)] [] := by
  unfold f_L_law_b3978 at hf
  refine zr_goto C0 (tgt := 4006) dL_law_3978 (by decide) ?_
  exact w_L_law_b4006 C0 hk23 hf
def f_L_law_l23 (E : zE) : Nat → Nat → Nat → Nat → Nat → Int32 → zH → Option (Int32 × zH)
  | 0, _, _, _, _, _, _ => none
  | n + 1, p0, p1, p2, p3, p4, h =>
    (lenA h p0).bind fun x1 =>
    if (x1 - (7 : Int32)) < p4 then (
      some ((1 : Int32), h)
    ) else (
      (dI h p0 0 p4).bind fun x4 =>
      if (x4 &&& (63 : Int32)) = 0 then (
        (dI h p0 0 (p4 + (1 : Int32))).bind fun x7 =>
        (dI h p0 0 (p4 + (2 : Int32))).bind fun x9 =>
        (dI h p0 0 (p4 + (3 : Int32))).bind fun x11 =>
        (dI h p0 0 (p4 + (4 : Int32))).bind fun x13 =>
        (dI h p0 0 (p4 + (5 : Int32))).bind fun x15 =>
        (cko h p1 0).bind fun _ =>
        bnd2 (f_X1_appendInput E p1 x7 x9 x11 x13 x15 h) fun x20 h18 =>
        (dI h18 p0 0 (p4 + (1 : Int32))).bind fun x21 =>
        (dI h18 p0 0 (p4 + (2 : Int32))).bind fun x23 =>
        (dI h18 p0 0 (p4 + (3 : Int32))).bind fun x25 =>
        (dI h18 p0 0 (p4 + (4 : Int32))).bind fun x27 =>
        (dI h18 p0 0 (p4 + (5 : Int32))).bind fun x29 =>
        (cko h18 p2 1).bind fun _ =>
        bnd2 (f_X6_appendInput E p2 x21 x23 x25 x27 x29 h18) fun x34 h32 =>
        if x20 = x34 then (
          f_L_law_b4006 E (f_L_law_l23 E n) p0 p1 p2 p3 p4 h32
        ) else (
          some ((0 : Int32), h32)
        )
      ) else (
      if (x4 &&& (63 : Int32)) = 1 then (
        (dI h p0 0 (p4 + (1 : Int32))).bind fun x37 =>
        (cko h p1 0).bind fun _ =>
        bnd2 (f_X1_truncateInput E p1 x37 h) fun x42 h40 =>
        (dI h40 p0 0 (p4 + (1 : Int32))).bind fun x43 =>
        (cko h40 p2 1).bind fun _ =>
        bnd2 (f_X6_truncateInput E p2 x43 h40) fun x48 h46 =>
        if x42 = x48 then (
          f_L_law_b4006 E (f_L_law_l23 E n) p0 p1 p2 p3 p4 h46
        ) else (
          some ((0 : Int32), h46)
        )
      ) else (
      if (x4 &&& (63 : Int32)) = 2 then (
        (cko h p1 0).bind fun _ =>
        bnd2 (f_X1_load E p1 h) fun x54 h52 =>
        (cko h52 p2 1).bind fun _ =>
        bnd2 (f_X6_load E p2 h52) fun x58 h56 =>
        if x54 = x58 then (
          f_L_law_b4006 E (f_L_law_l23 E n) p0 p1 p2 p3 p4 h56
        ) else (
          some ((0 : Int32), h56)
        )
      ) else (
      if (x4 &&& (63 : Int32)) = 3 then (
        (cko h p1 0).bind fun _ =>
        bnd2 (f_X1_errorCode E p1 h) fun x64 h62 =>
        (cko h62 p2 1).bind fun _ =>
        bnd2 (f_X6_errorCode E p2 h62) fun x68 h66 =>
        if x64 = x68 then (
          f_L_law_b4006 E (f_L_law_l23 E n) p0 p1 p2 p3 p4 h66
        ) else (
          some ((0 : Int32), h66)
        )
      ) else (
      if (x4 &&& (63 : Int32)) = 4 then (
        (cko h p1 0).bind fun _ =>
        bnd2 (f_X1_errorPosition E p1 h) fun x74 h72 =>
        (cko h72 p2 1).bind fun _ =>
        bnd2 (f_X6_errorPosition E p2 h72) fun x78 h76 =>
        if x74 = x78 then (
          f_L_law_b4006 E (f_L_law_l23 E n) p0 p1 p2 p3 p4 h76
        ) else (
          some ((0 : Int32), h76)
        )
      ) else (
      if (x4 &&& (63 : Int32)) = 5 then (
        (cko h p1 0).bind fun _ =>
        bnd2 (f_X1_find E p1 h) fun x84 h82 =>
        (cko h82 p2 1).bind fun _ =>
        bnd2 (f_X6_find E p2 h82) fun x88 h86 =>
        if x84 = x88 then (
          f_L_law_b4006 E (f_L_law_l23 E n) p0 p1 p2 p3 p4 h86
        ) else (
          some ((0 : Int32), h86)
        )
      ) else (
      if (x4 &&& (63 : Int32)) = 6 then (
        (cko h p1 0).bind fun _ =>
        bnd2 (f_X1_loadJournal E p1 h) fun x94 h92 =>
        (cko h92 p2 1).bind fun _ =>
        bnd2 (f_X6_loadJournal E p2 h92) fun x98 h96 =>
        if x94 = x98 then (
          f_L_law_b4006 E (f_L_law_l23 E n) p0 p1 p2 p3 p4 h96
        ) else (
          some ((0 : Int32), h96)
        )
      ) else (
      if (x4 &&& (63 : Int32)) = 7 then (
        (dI h p0 0 (p4 + (1 : Int32))).bind fun x101 =>
        bnd2 (f_X0_runJournal E p1 x101 p3 h) fun x105 h103 =>
        (dI h103 p0 0 (p4 + (1 : Int32))).bind fun x106 =>
        (cko h103 p2 1).bind fun _ =>
        bnd2 (f_X6_runJournal E p2 x106 h103) fun x111 h109 =>
        (cko h109 p2 1).bind fun _ =>
        bnd2 (f_X6_thrown E p2 h109) fun x115 h113 =>
        if x115 = x105 then (
          if x105 = 0 then (
            (dL h113 p3 (0 : Int32)).bind fun x118 =>
            if x118 = (x111.toInt64) then (
              f_L_law_b524 E (f_L_law_l23 E n) p0 p1 p2 p3 p4 h113
            ) else (
              some ((0 : Int32), h113)
            )
          ) else (
            f_L_law_b524 E (f_L_law_l23 E n) p0 p1 p2 p3 p4 h113
          )
        ) else (
          some ((0 : Int32), h113)
        )
      ) else (
      if (x4 &&& (63 : Int32)) = 8 then (
        (dI h p0 0 (p4 + (1 : Int32))).bind fun x122 =>
        (cko h p1 0).bind fun _ =>
        bnd2 (f_X1_count E p1 x122 h) fun x127 h125 =>
        (dI h125 p0 0 (p4 + (1 : Int32))).bind fun x128 =>
        (cko h125 p2 1).bind fun _ =>
        bnd2 (f_X6_count E p2 x128 h125) fun x133 h131 =>
        if x127 = x133 then (
          f_L_law_b4006 E (f_L_law_l23 E n) p0 p1 p2 p3 p4 h131
        ) else (
          some ((0 : Int32), h131)
        )
      ) else (
      if (x4 &&& (63 : Int32)) = 9 then (
        (cko h p1 0).bind fun _ =>
        bnd2 (f_X1_month E p1 h) fun x139 h137 =>
        (cko h137 p2 1).bind fun _ =>
        bnd2 (f_X6_month E p2 h137) fun x143 h141 =>
        if x139 = x143 then (
          f_L_law_b4006 E (f_L_law_l23 E n) p0 p1 p2 p3 p4 h141
        ) else (
          some ((0 : Int32), h141)
        )
      ) else (
      if (x4 &&& (63 : Int32)) = 10 then (
        (dI h p0 0 (p4 + (1 : Int32))).bind fun x146 =>
        (dI h p0 0 (p4 + (2 : Int32))).bind fun x148 =>
        bnd2 (f_X0_owner E p1 x146 x148 p3 h) fun x152 h150 =>
        (dI h150 p0 0 (p4 + (1 : Int32))).bind fun x153 =>
        (dI h150 p0 0 (p4 + (2 : Int32))).bind fun x155 =>
        (cko h150 p2 1).bind fun _ =>
        bnd2 (f_X6_owner E p2 x153 x155 h150) fun x160 h158 =>
        (cko h158 p2 1).bind fun _ =>
        bnd2 (f_X6_thrown E p2 h158) fun x164 h162 =>
        if x164 = x152 then (
          if x152 = 0 then (
            (dL h162 p3 (0 : Int32)).bind fun x167 =>
            if x167 = (x160.toInt64) then (
              f_L_law_b630 E (f_L_law_l23 E n) p0 p1 p2 p3 p4 h162
            ) else (
              some ((0 : Int32), h162)
            )
          ) else (
            f_L_law_b630 E (f_L_law_l23 E n) p0 p1 p2 p3 p4 h162
          )
        ) else (
          some ((0 : Int32), h162)
        )
      ) else (
      if (x4 &&& (63 : Int32)) = 11 then (
        (dI h p0 0 (p4 + (1 : Int32))).bind fun x171 =>
        bnd2 (f_X0_area E p1 x171 p3 h) fun x175 h173 =>
        (dI h173 p0 0 (p4 + (1 : Int32))).bind fun x176 =>
        (cko h173 p2 1).bind fun _ =>
        bnd2 (f_X6_area E p2 x176 h173) fun x181 h179 =>
        (cko h179 p2 1).bind fun _ =>
        bnd2 (f_X6_thrown E p2 h179) fun x185 h183 =>
        if x185 = x175 then (
          if x175 = 0 then (
            (dL h183 p3 (0 : Int32)).bind fun x188 =>
            if x188 = (x181.toInt64) then (
              f_L_law_b686 E (f_L_law_l23 E n) p0 p1 p2 p3 p4 h183
            ) else (
              some ((0 : Int32), h183)
            )
          ) else (
            f_L_law_b686 E (f_L_law_l23 E n) p0 p1 p2 p3 p4 h183
          )
        ) else (
          some ((0 : Int32), h183)
        )
      ) else (
      if (x4 &&& (63 : Int32)) = 12 then (
        (dI h p0 0 (p4 + (1 : Int32))).bind fun x192 =>
        bnd2 (f_X0_perimeter E p1 x192 p3 h) fun x196 h194 =>
        (dI h194 p0 0 (p4 + (1 : Int32))).bind fun x197 =>
        (cko h194 p2 1).bind fun _ =>
        bnd2 (f_X6_perimeter E p2 x197 h194) fun x202 h200 =>
        (cko h200 p2 1).bind fun _ =>
        bnd2 (f_X6_thrown E p2 h200) fun x206 h204 =>
        if x206 = x196 then (
          if x196 = 0 then (
            (dL h204 p3 (0 : Int32)).bind fun x209 =>
            if x209 = (x202.toInt64) then (
              f_L_law_b742 E (f_L_law_l23 E n) p0 p1 p2 p3 p4 h204
            ) else (
              some ((0 : Int32), h204)
            )
          ) else (
            f_L_law_b742 E (f_L_law_l23 E n) p0 p1 p2 p3 p4 h204
          )
        ) else (
          some ((0 : Int32), h204)
        )
      ) else (
      if (x4 &&& (63 : Int32)) = 13 then (
        (dI h p0 0 (p4 + (1 : Int32))).bind fun x213 =>
        (dI h p0 0 (p4 + (2 : Int32))).bind fun x215 =>
        bnd2 (f_X0_border E p1 x213 x215 p3 h) fun x219 h217 =>
        (dI h217 p0 0 (p4 + (1 : Int32))).bind fun x220 =>
        (dI h217 p0 0 (p4 + (2 : Int32))).bind fun x222 =>
        (cko h217 p2 1).bind fun _ =>
        bnd2 (f_X6_border E p2 x220 x222 h217) fun x227 h225 =>
        (cko h225 p2 1).bind fun _ =>
        bnd2 (f_X6_thrown E p2 h225) fun x231 h229 =>
        if x231 = x219 then (
          if x219 = 0 then (
            (dL h229 p3 (0 : Int32)).bind fun x234 =>
            if x234 = (x227.toInt64) then (
              f_L_law_b810 E (f_L_law_l23 E n) p0 p1 p2 p3 p4 h229
            ) else (
              some ((0 : Int32), h229)
            )
          ) else (
            f_L_law_b810 E (f_L_law_l23 E n) p0 p1 p2 p3 p4 h229
          )
        ) else (
          some ((0 : Int32), h229)
        )
      ) else (
      if (x4 &&& (63 : Int32)) = 14 then (
        (dI h p0 0 (p4 + (1 : Int32))).bind fun x238 =>
        bnd2 (f_X0_isConnected E p1 x238 p3 h) fun x242 h240 =>
        (dI h240 p0 0 (p4 + (1 : Int32))).bind fun x243 =>
        (cko h240 p2 1).bind fun _ =>
        bnd2 (f_X6_isConnected E p2 x243 h240) fun x248 h246 =>
        (cko h246 p2 1).bind fun _ =>
        bnd2 (f_X6_thrown E p2 h246) fun x252 h250 =>
        if x252 = x242 then (
          if x242 = 0 then (
            (dL h250 p3 (0 : Int32)).bind fun x255 =>
            if x248 = 0 then (
              f_L_law_b867 E (f_L_law_l23 E n) p0 p1 p2 p3 p4 x255 (0 : Int64) h250
            ) else (
              f_L_law_b867 E (f_L_law_l23 E n) p0 p1 p2 p3 p4 x255 (1 : Int64) h250
            )
          ) else (
            f_L_law_b873 E (f_L_law_l23 E n) p0 p1 p2 p3 p4 h250
          )
        ) else (
          some ((0 : Int32), h250)
        )
      ) else (
      if (x4 &&& (63 : Int32)) = 15 then (
        (dI h p0 0 (p4 + (1 : Int32))).bind fun x259 =>
        (dI h p0 0 (p4 + (2 : Int32))).bind fun x261 =>
        (dI h p0 0 (p4 + (3 : Int32))).bind fun x263 =>
        bnd2 (f_X0_distance E p1 x259 x261 x263 p3 h) fun x267 h265 =>
        (dI h265 p0 0 (p4 + (1 : Int32))).bind fun x268 =>
        (dI h265 p0 0 (p4 + (2 : Int32))).bind fun x270 =>
        (dI h265 p0 0 (p4 + (3 : Int32))).bind fun x272 =>
        (cko h265 p2 1).bind fun _ =>
        bnd2 (f_X6_distance E p2 x268 x270 x272 h265) fun x277 h275 =>
        (cko h275 p2 1).bind fun _ =>
        bnd2 (f_X6_thrown E p2 h275) fun x281 h279 =>
        if x281 = x267 then (
          if x267 = 0 then (
            (dL h279 p3 (0 : Int32)).bind fun x284 =>
            if x284 = (x277.toInt64) then (
              f_L_law_b953 E (f_L_law_l23 E n) p0 p1 p2 p3 p4 h279
            ) else (
              some ((0 : Int32), h279)
            )
          ) else (
            f_L_law_b953 E (f_L_law_l23 E n) p0 p1 p2 p3 p4 h279
          )
        ) else (
          some ((0 : Int32), h279)
        )
      ) else (
      if (x4 &&& (63 : Int32)) = 16 then (
        (dI h p0 0 (p4 + (1 : Int32))).bind fun x288 =>
        (dI h p0 0 (p4 + (2 : Int32))).bind fun x290 =>
        (dI h p0 0 (p4 + (3 : Int32))).bind fun x292 =>
        (dI h p0 0 (p4 + (4 : Int32))).bind fun x294 =>
        (dI h p0 0 (p4 + (5 : Int32))).bind fun x296 =>
        (dI h p0 0 (p4 + (6 : Int32))).bind fun x298 =>
        bnd2 (f_X0_cede E p1 x288 x290 x292 x294 x296 x298 p3 h) fun x302 h300 =>
        (dI h300 p0 0 (p4 + (1 : Int32))).bind fun x303 =>
        (dI h300 p0 0 (p4 + (2 : Int32))).bind fun x305 =>
        (dI h300 p0 0 (p4 + (3 : Int32))).bind fun x307 =>
        (dI h300 p0 0 (p4 + (4 : Int32))).bind fun x309 =>
        (dI h300 p0 0 (p4 + (5 : Int32))).bind fun x311 =>
        (dI h300 p0 0 (p4 + (6 : Int32))).bind fun x313 =>
        (cko h300 p2 1).bind fun _ =>
        bnd2 (f_X6_cede E p2 x303 x305 x307 x309 x311 x313 h300) fun x318 h316 =>
        (cko h316 p2 1).bind fun _ =>
        bnd2 (f_X6_thrown E p2 h316) fun x322 h320 =>
        if x322 = x302 then (
          if x302 = 0 then (
            (dL h320 p3 (0 : Int32)).bind fun x325 =>
            if x325 = (x318.toInt64) then (
              f_L_law_b1071 E (f_L_law_l23 E n) p0 p1 p2 p3 p4 h320
            ) else (
              some ((0 : Int32), h320)
            )
          ) else (
            f_L_law_b1071 E (f_L_law_l23 E n) p0 p1 p2 p3 p4 h320
          )
        ) else (
          some ((0 : Int32), h320)
        )
      ) else (
      if (x4 &&& (63 : Int32)) = 17 then (
        (dI h p0 0 (p4 + (1 : Int32))).bind fun x329 =>
        bnd2 (f_X0_outletOwner E p1 x329 p3 h) fun x333 h331 =>
        (dI h331 p0 0 (p4 + (1 : Int32))).bind fun x334 =>
        (cko h331 p2 1).bind fun _ =>
        bnd2 (f_X6_outletOwner E p2 x334 h331) fun x339 h337 =>
        (cko h337 p2 1).bind fun _ =>
        bnd2 (f_X6_thrown E p2 h337) fun x343 h341 =>
        if x343 = x333 then (
          if x333 = 0 then (
            (dL h341 p3 (0 : Int32)).bind fun x346 =>
            if x346 = (x339.toInt64) then (
              f_L_law_b1127 E (f_L_law_l23 E n) p0 p1 p2 p3 p4 h341
            ) else (
              some ((0 : Int32), h341)
            )
          ) else (
            f_L_law_b1127 E (f_L_law_l23 E n) p0 p1 p2 p3 p4 h341
          )
        ) else (
          some ((0 : Int32), h341)
        )
      ) else (
      if (x4 &&& (63 : Int32)) = 18 then (
        (dI h p0 0 (p4 + (1 : Int32))).bind fun x350 =>
        bnd2 (f_X0_outletCell E p1 x350 p3 h) fun x354 h352 =>
        (dI h352 p0 0 (p4 + (1 : Int32))).bind fun x355 =>
        (cko h352 p2 1).bind fun _ =>
        bnd2 (f_X6_outletCell E p2 x355 h352) fun x360 h358 =>
        (cko h358 p2 1).bind fun _ =>
        bnd2 (f_X6_thrown E p2 h358) fun x364 h362 =>
        if x364 = x354 then (
          if x354 = 0 then (
            (dL h362 p3 (0 : Int32)).bind fun x367 =>
            if x367 = (x360.toInt64) then (
              f_L_law_b1183 E (f_L_law_l23 E n) p0 p1 p2 p3 p4 h362
            ) else (
              some ((0 : Int32), h362)
            )
          ) else (
            f_L_law_b1183 E (f_L_law_l23 E n) p0 p1 p2 p3 p4 h362
          )
        ) else (
          some ((0 : Int32), h362)
        )
      ) else (
      if (x4 &&& (63 : Int32)) = 19 then (
        (dI h p0 0 (p4 + (1 : Int32))).bind fun x371 =>
        (dI h p0 0 (p4 + (2 : Int32))).bind fun x373 =>
        (dI h p0 0 (p4 + (3 : Int32))).bind fun x375 =>
        bnd2 (f_X0_openOutlet E p1 x371 x373 x375 p3 h) fun x379 h377 =>
        (dI h377 p0 0 (p4 + (1 : Int32))).bind fun x380 =>
        (dI h377 p0 0 (p4 + (2 : Int32))).bind fun x382 =>
        (dI h377 p0 0 (p4 + (3 : Int32))).bind fun x384 =>
        (cko h377 p2 1).bind fun _ =>
        bnd2 (f_X6_openOutlet E p2 x380 x382 x384 h377) fun x389 h387 =>
        (cko h387 p2 1).bind fun _ =>
        bnd2 (f_X6_thrown E p2 h387) fun x393 h391 =>
        if x393 = x379 then (
          if x379 = 0 then (
            (dL h391 p3 (0 : Int32)).bind fun x396 =>
            if x396 = (x389.toInt64) then (
              f_L_law_b1263 E (f_L_law_l23 E n) p0 p1 p2 p3 p4 h391
            ) else (
              some ((0 : Int32), h391)
            )
          ) else (
            f_L_law_b1263 E (f_L_law_l23 E n) p0 p1 p2 p3 p4 h391
          )
        ) else (
          some ((0 : Int32), h391)
        )
      ) else (
      if (x4 &&& (63 : Int32)) = 20 then (
        (dI h p0 0 (p4 + (1 : Int32))).bind fun x400 =>
        bnd2 (f_X0_bestSite E p1 x400 p3 h) fun x404 h402 =>
        (dI h402 p0 0 (p4 + (1 : Int32))).bind fun x405 =>
        (cko h402 p2 1).bind fun _ =>
        bnd2 (f_X6_bestSite E p2 x405 h402) fun x410 h408 =>
        (cko h408 p2 1).bind fun _ =>
        bnd2 (f_X6_thrown E p2 h408) fun x414 h412 =>
        if x414 = x404 then (
          if x404 = 0 then (
            (dL h412 p3 (0 : Int32)).bind fun x417 =>
            if x417 = (x410.toInt64) then (
              f_L_law_b1319 E (f_L_law_l23 E n) p0 p1 p2 p3 p4 h412
            ) else (
              some ((0 : Int32), h412)
            )
          ) else (
            f_L_law_b1319 E (f_L_law_l23 E n) p0 p1 p2 p3 p4 h412
          )
        ) else (
          some ((0 : Int32), h412)
        )
      ) else (
      if (x4 &&& (63 : Int32)) = 21 then (
        (dI h p0 0 (p4 + (1 : Int32))).bind fun x421 =>
        (dI h p0 0 (p4 + (2 : Int32))).bind fun x423 =>
        bnd2 (f_X0_coverage E p1 x421 x423 p3 h) fun x427 h425 =>
        (dI h425 p0 0 (p4 + (1 : Int32))).bind fun x428 =>
        (dI h425 p0 0 (p4 + (2 : Int32))).bind fun x430 =>
        (cko h425 p2 1).bind fun _ =>
        bnd2 (f_X6_coverage E p2 x428 x430 h425) fun x435 h433 =>
        (cko h433 p2 1).bind fun _ =>
        bnd2 (f_X6_thrown E p2 h433) fun x439 h437 =>
        if x439 = x427 then (
          if x427 = 0 then (
            (dL h437 p3 (0 : Int32)).bind fun x442 =>
            if x442 = (x435.toInt64) then (
              f_L_law_b1387 E (f_L_law_l23 E n) p0 p1 p2 p3 p4 h437
            ) else (
              some ((0 : Int32), h437)
            )
          ) else (
            f_L_law_b1387 E (f_L_law_l23 E n) p0 p1 p2 p3 p4 h437
          )
        ) else (
          some ((0 : Int32), h437)
        )
      ) else (
      if (x4 &&& (63 : Int32)) = 22 then (
        (dI h p0 0 (p4 + (1 : Int32))).bind fun x446 =>
        (dI h p0 0 (p4 + (2 : Int32))).bind fun x448 =>
        bnd2 (f_X0_rivalCells E p1 x446 x448 p3 h) fun x452 h450 =>
        (dI h450 p0 0 (p4 + (1 : Int32))).bind fun x453 =>
        (dI h450 p0 0 (p4 + (2 : Int32))).bind fun x455 =>
        (cko h450 p2 1).bind fun _ =>
        bnd2 (f_X6_rivalCells E p2 x453 x455 h450) fun x460 h458 =>
        (cko h458 p2 1).bind fun _ =>
        bnd2 (f_X6_thrown E p2 h458) fun x464 h462 =>
        if x464 = x452 then (
          if x452 = 0 then (
            (dL h462 p3 (0 : Int32)).bind fun x467 =>
            if x467 = (x460.toInt64) then (
              f_L_law_b1455 E (f_L_law_l23 E n) p0 p1 p2 p3 p4 h462
            ) else (
              some ((0 : Int32), h462)
            )
          ) else (
            f_L_law_b1455 E (f_L_law_l23 E n) p0 p1 p2 p3 p4 h462
          )
        ) else (
          some ((0 : Int32), h462)
        )
      ) else (
      if (x4 &&& (63 : Int32)) = 23 then (
        (dI h p0 0 (p4 + (1 : Int32))).bind fun x471 =>
        bnd2 (f_X0_halvingLine E p1 x471 p3 h) fun x475 h473 =>
        (dI h473 p0 0 (p4 + (1 : Int32))).bind fun x476 =>
        (cko h473 p2 1).bind fun _ =>
        bnd2 (f_X6_halvingLine E p2 x476 h473) fun x481 h479 =>
        (cko h479 p2 1).bind fun _ =>
        bnd2 (f_X6_thrown E p2 h479) fun x485 h483 =>
        if x485 = x475 then (
          if x475 = 0 then (
            (dL h483 p3 (0 : Int32)).bind fun x488 =>
            if x488 = (x481.toInt64) then (
              f_L_law_b1511 E (f_L_law_l23 E n) p0 p1 p2 p3 p4 h483
            ) else (
              some ((0 : Int32), h483)
            )
          ) else (
            f_L_law_b1511 E (f_L_law_l23 E n) p0 p1 p2 p3 p4 h483
          )
        ) else (
          some ((0 : Int32), h483)
        )
      ) else (
      if (x4 &&& (63 : Int32)) = 24 then (
        (dI h p0 0 (p4 + (1 : Int32))).bind fun x492 =>
        (dI h p0 0 (p4 + (2 : Int32))).bind fun x494 =>
        (dI h p0 0 (p4 + (3 : Int32))).bind fun x496 =>
        bnd2 (f_X0_royalty E p1 x492 (((x494.toInt64) <<< ((32 : Int32).toInt64 &&& 63)) ||| ((x496.toInt64) &&& (4294967295 : Int64))) p3 h) fun x500 h498 =>
        (dI h498 p0 0 (p4 + (1 : Int32))).bind fun x501 =>
        (dI h498 p0 0 (p4 + (2 : Int32))).bind fun x503 =>
        (dI h498 p0 0 (p4 + (3 : Int32))).bind fun x505 =>
        (cko h498 p2 1).bind fun _ =>
        bnd2 (f_X6_royalty E p2 x501 (((x503.toInt64) <<< ((32 : Int32).toInt64 &&& 63)) ||| ((x505.toInt64) &&& (4294967295 : Int64))) h498) fun x510 h508 =>
        (cko h508 p2 1).bind fun _ =>
        bnd2 (f_X6_thrown E p2 h508) fun x514 h512 =>
        if x514 = x500 then (
          if x500 = 0 then (
            (dL h512 p3 (0 : Int32)).bind fun x517 =>
            if x517 = x510 then (
              f_L_law_b1610 E (f_L_law_l23 E n) p0 p1 p2 p3 p4 h512
            ) else (
              some ((0 : Int32), h512)
            )
          ) else (
            f_L_law_b1610 E (f_L_law_l23 E n) p0 p1 p2 p3 p4 h512
          )
        ) else (
          some ((0 : Int32), h512)
        )
      ) else (
      if (x4 &&& (63 : Int32)) = 25 then (
        (dI h p0 0 (p4 + (1 : Int32))).bind fun x521 =>
        bnd2 (f_X0_planOf E p1 x521 p3 h) fun x525 h523 =>
        (dI h523 p0 0 (p4 + (1 : Int32))).bind fun x526 =>
        (cko h523 p2 1).bind fun _ =>
        bnd2 (f_X6_planOf E p2 x526 h523) fun x531 h529 =>
        (cko h529 p2 1).bind fun _ =>
        bnd2 (f_X6_thrown E p2 h529) fun x535 h533 =>
        if x535 = x525 then (
          if x525 = 0 then (
            (dL h533 p3 (0 : Int32)).bind fun x538 =>
            if x538 = (x531.toInt64) then (
              f_L_law_b1666 E (f_L_law_l23 E n) p0 p1 p2 p3 p4 h533
            ) else (
              some ((0 : Int32), h533)
            )
          ) else (
            f_L_law_b1666 E (f_L_law_l23 E n) p0 p1 p2 p3 p4 h533
          )
        ) else (
          some ((0 : Int32), h533)
        )
      ) else (
      if (x4 &&& (63 : Int32)) = 26 then (
        (dI h p0 0 (p4 + (1 : Int32))).bind fun x542 =>
        (dI h p0 0 (p4 + (2 : Int32))).bind fun x544 =>
        bnd2 (f_X0_setPlan E p1 x542 x544 p3 h) fun x548 h546 =>
        (dI h546 p0 0 (p4 + (1 : Int32))).bind fun x549 =>
        (dI h546 p0 0 (p4 + (2 : Int32))).bind fun x551 =>
        (cko h546 p2 1).bind fun _ =>
        bnd2 (f_X6_setPlan E p2 x549 x551 h546) fun x556 h554 =>
        (cko h554 p2 1).bind fun _ =>
        bnd2 (f_X6_thrown E p2 h554) fun x560 h558 =>
        if x560 = x548 then (
          if x548 = 0 then (
            (dL h558 p3 (0 : Int32)).bind fun x563 =>
            if x563 = (x556.toInt64) then (
              f_L_law_b1734 E (f_L_law_l23 E n) p0 p1 p2 p3 p4 h558
            ) else (
              some ((0 : Int32), h558)
            )
          ) else (
            f_L_law_b1734 E (f_L_law_l23 E n) p0 p1 p2 p3 p4 h558
          )
        ) else (
          some ((0 : Int32), h558)
        )
      ) else (
      if (x4 &&& (63 : Int32)) = 27 then (
        (dI h p0 0 (p4 + (1 : Int32))).bind fun x567 =>
        bnd2 (f_X0_cheapestPlan E p1 x567 p3 h) fun x571 h569 =>
        (dI h569 p0 0 (p4 + (1 : Int32))).bind fun x572 =>
        (cko h569 p2 1).bind fun _ =>
        bnd2 (f_X6_cheapestPlan E p2 x572 h569) fun x577 h575 =>
        (cko h575 p2 1).bind fun _ =>
        bnd2 (f_X6_thrown E p2 h575) fun x581 h579 =>
        if x581 = x571 then (
          if x571 = 0 then (
            (dL h579 p3 (0 : Int32)).bind fun x584 =>
            if x584 = (x577.toInt64) then (
              f_L_law_b1790 E (f_L_law_l23 E n) p0 p1 p2 p3 p4 h579
            ) else (
              some ((0 : Int32), h579)
            )
          ) else (
            f_L_law_b1790 E (f_L_law_l23 E n) p0 p1 p2 p3 p4 h579
          )
        ) else (
          some ((0 : Int32), h579)
        )
      ) else (
      if (x4 &&& (63 : Int32)) = 28 then (
        (dI h p0 0 (p4 + (1 : Int32))).bind fun x588 =>
        (dI h p0 0 (p4 + (2 : Int32))).bind fun x590 =>
        (dI h p0 0 (p4 + (3 : Int32))).bind fun x592 =>
        bnd2 (f_X0_reportSales E p1 x588 (((x590.toInt64) <<< ((32 : Int32).toInt64 &&& 63)) ||| ((x592.toInt64) &&& (4294967295 : Int64))) p3 h) fun x596 h594 =>
        (dI h594 p0 0 (p4 + (1 : Int32))).bind fun x597 =>
        (dI h594 p0 0 (p4 + (2 : Int32))).bind fun x599 =>
        (dI h594 p0 0 (p4 + (3 : Int32))).bind fun x601 =>
        (cko h594 p2 1).bind fun _ =>
        bnd2 (f_X6_reportSales E p2 x597 (((x599.toInt64) <<< ((32 : Int32).toInt64 &&& 63)) ||| ((x601.toInt64) &&& (4294967295 : Int64))) h594) fun x606 h604 =>
        (cko h604 p2 1).bind fun _ =>
        bnd2 (f_X6_thrown E p2 h604) fun x610 h608 =>
        if x610 = x596 then (
          if x596 = 0 then (
            (dL h608 p3 (0 : Int32)).bind fun x613 =>
            if x613 = x606 then (
              f_L_law_b1889 E (f_L_law_l23 E n) p0 p1 p2 p3 p4 h608
            ) else (
              some ((0 : Int32), h608)
            )
          ) else (
            f_L_law_b1889 E (f_L_law_l23 E n) p0 p1 p2 p3 p4 h608
          )
        ) else (
          some ((0 : Int32), h608)
        )
      ) else (
      if (x4 &&& (63 : Int32)) = 29 then (
        (dI h p0 0 (p4 + (1 : Int32))).bind fun x617 =>
        (dI h p0 0 (p4 + (2 : Int32))).bind fun x619 =>
        (dI h p0 0 (p4 + (3 : Int32))).bind fun x621 =>
        (dI h p0 0 (p4 + (4 : Int32))).bind fun x623 =>
        (dI h p0 0 (p4 + (5 : Int32))).bind fun x625 =>
        bnd2 (f_X0_deliver E p1 x617 x619 x621 (((x623.toInt64) <<< ((32 : Int32).toInt64 &&& 63)) ||| ((x625.toInt64) &&& (4294967295 : Int64))) p3 h) fun x629 h627 =>
        (dI h627 p0 0 (p4 + (1 : Int32))).bind fun x630 =>
        (dI h627 p0 0 (p4 + (2 : Int32))).bind fun x632 =>
        (dI h627 p0 0 (p4 + (3 : Int32))).bind fun x634 =>
        (dI h627 p0 0 (p4 + (4 : Int32))).bind fun x636 =>
        (dI h627 p0 0 (p4 + (5 : Int32))).bind fun x638 =>
        (cko h627 p2 1).bind fun _ =>
        bnd2 (f_X6_deliver E p2 x630 x632 x634 (((x636.toInt64) <<< ((32 : Int32).toInt64 &&& 63)) ||| ((x638.toInt64) &&& (4294967295 : Int64))) h627) fun x643 h641 =>
        (cko h641 p2 1).bind fun _ =>
        bnd2 (f_X6_thrown E p2 h641) fun x647 h645 =>
        if x647 = x629 then (
          if x629 = 0 then (
            (dL h645 p3 (0 : Int32)).bind fun x650 =>
            if x650 = x643 then (
              f_L_law_b2012 E (f_L_law_l23 E n) p0 p1 p2 p3 p4 h645
            ) else (
              some ((0 : Int32), h645)
            )
          ) else (
            f_L_law_b2012 E (f_L_law_l23 E n) p0 p1 p2 p3 p4 h645
          )
        ) else (
          some ((0 : Int32), h645)
        )
      ) else (
      if (x4 &&& (63 : Int32)) = 30 then (
        (dI h p0 0 (p4 + (1 : Int32))).bind fun x654 =>
        bnd2 (f_X0_sales E p1 x654 p3 h) fun x658 h656 =>
        (dI h656 p0 0 (p4 + (1 : Int32))).bind fun x659 =>
        (cko h656 p2 1).bind fun _ =>
        bnd2 (f_X6_sales E p2 x659 h656) fun x664 h662 =>
        (cko h662 p2 1).bind fun _ =>
        bnd2 (f_X6_thrown E p2 h662) fun x668 h666 =>
        if x668 = x658 then (
          if x658 = 0 then (
            (dL h666 p3 (0 : Int32)).bind fun x671 =>
            if x671 = x664 then (
              f_L_law_b2067 E (f_L_law_l23 E n) p0 p1 p2 p3 p4 h666
            ) else (
              some ((0 : Int32), h666)
            )
          ) else (
            f_L_law_b2067 E (f_L_law_l23 E n) p0 p1 p2 p3 p4 h666
          )
        ) else (
          some ((0 : Int32), h666)
        )
      ) else (
      if (x4 &&& (63 : Int32)) = 31 then (
        (dI h p0 0 (p4 + (1 : Int32))).bind fun x675 =>
        (dI h p0 0 (p4 + (2 : Int32))).bind fun x677 =>
        bnd2 (f_X0_salesOf E p1 x675 x677 p3 h) fun x681 h679 =>
        (dI h679 p0 0 (p4 + (1 : Int32))).bind fun x682 =>
        (dI h679 p0 0 (p4 + (2 : Int32))).bind fun x684 =>
        (cko h679 p2 1).bind fun _ =>
        bnd2 (f_X6_salesOf E p2 x682 x684 h679) fun x689 h687 =>
        (cko h687 p2 1).bind fun _ =>
        bnd2 (f_X6_thrown E p2 h687) fun x693 h691 =>
        if x693 = x681 then (
          if x681 = 0 then (
            (dL h691 p3 (0 : Int32)).bind fun x696 =>
            if x696 = x689 then (
              f_L_law_b2134 E (f_L_law_l23 E n) p0 p1 p2 p3 p4 h691
            ) else (
              some ((0 : Int32), h691)
            )
          ) else (
            f_L_law_b2134 E (f_L_law_l23 E n) p0 p1 p2 p3 p4 h691
          )
        ) else (
          some ((0 : Int32), h691)
        )
      ) else (
      if (x4 &&& (63 : Int32)) = 32 then (
        (dI h p0 0 (p4 + (1 : Int32))).bind fun x700 =>
        (cko h p1 0).bind fun _ =>
        bnd2 (f_X1_ranked E p1 x700 h) fun x705 h703 =>
        (dI h703 p0 0 (p4 + (1 : Int32))).bind fun x706 =>
        (cko h703 p2 1).bind fun _ =>
        bnd2 (f_X6_ranked E p2 x706 h703) fun x711 h709 =>
        if x705 = x711 then (
          f_L_law_b4006 E (f_L_law_l23 E n) p0 p1 p2 p3 p4 h709
        ) else (
          some ((0 : Int32), h709)
        )
      ) else (
      if (x4 &&& (63 : Int32)) = 33 then (
        (dI h p0 0 (p4 + (1 : Int32))).bind fun x714 =>
        (dI h p0 0 (p4 + (2 : Int32))).bind fun x716 =>
        bnd2 (f_X0_creditDue E p1 x714 x716 p3 h) fun x720 h718 =>
        (dI h718 p0 0 (p4 + (1 : Int32))).bind fun x721 =>
        (dI h718 p0 0 (p4 + (2 : Int32))).bind fun x723 =>
        (cko h718 p2 1).bind fun _ =>
        bnd2 (f_X6_creditDue E p2 x721 x723 h718) fun x728 h726 =>
        (cko h726 p2 1).bind fun _ =>
        bnd2 (f_X6_thrown E p2 h726) fun x732 h730 =>
        if x732 = x720 then (
          if x720 = 0 then (
            (dL h730 p3 (0 : Int32)).bind fun x735 =>
            if x735 = x728 then (
              f_L_law_b2226 E (f_L_law_l23 E n) p0 p1 p2 p3 p4 h730
            ) else (
              some ((0 : Int32), h730)
            )
          ) else (
            f_L_law_b2226 E (f_L_law_l23 E n) p0 p1 p2 p3 p4 h730
          )
        ) else (
          some ((0 : Int32), h730)
        )
      ) else (
      if (x4 &&& (63 : Int32)) = 34 then (
        bnd2 (f_X0_closeMonth E p1 p3 h) fun x741 h739 =>
        (cko h739 p2 1).bind fun _ =>
        bnd2 (f_X6_closeMonth E p2 h739) fun x745 h743 =>
        (cko h743 p2 1).bind fun _ =>
        bnd2 (f_X6_thrown E p2 h743) fun x749 h747 =>
        if x749 = x741 then (
          if x741 = 0 then (
            (dL h747 p3 (0 : Int32)).bind fun x752 =>
            if x752 = (x745.toInt64) then (
              f_L_law_b2270 E (f_L_law_l23 E n) p0 p1 p2 p3 p4 h747
            ) else (
              some ((0 : Int32), h747)
            )
          ) else (
            f_L_law_b2270 E (f_L_law_l23 E n) p0 p1 p2 p3 p4 h747
          )
        ) else (
          some ((0 : Int32), h747)
        )
      ) else (
      if (x4 &&& (63 : Int32)) = 35 then (
        (dI h p0 0 (p4 + (1 : Int32))).bind fun x756 =>
        (dI h p0 0 (p4 + (2 : Int32))).bind fun x758 =>
        (dI h p0 0 (p4 + (3 : Int32))).bind fun x760 =>
        bnd2 (f_X0_invoice E p1 x756 x758 x760 p3 h) fun x764 h762 =>
        (dI h762 p0 0 (p4 + (1 : Int32))).bind fun x765 =>
        (dI h762 p0 0 (p4 + (2 : Int32))).bind fun x767 =>
        (dI h762 p0 0 (p4 + (3 : Int32))).bind fun x769 =>
        (cko h762 p2 1).bind fun _ =>
        bnd2 (f_X6_invoice E p2 x765 x767 x769 h762) fun x774 h772 =>
        (cko h772 p2 1).bind fun _ =>
        bnd2 (f_X6_thrown E p2 h772) fun x778 h776 =>
        if x778 = x764 then (
          if x764 = 0 then (
            (dL h776 p3 (0 : Int32)).bind fun x781 =>
            if x781 = x774 then (
              f_L_law_b2349 E (f_L_law_l23 E n) p0 p1 p2 p3 p4 h776
            ) else (
              some ((0 : Int32), h776)
            )
          ) else (
            f_L_law_b2349 E (f_L_law_l23 E n) p0 p1 p2 p3 p4 h776
          )
        ) else (
          some ((0 : Int32), h776)
        )
      ) else (
      if (x4 &&& (63 : Int32)) = 36 then (
        (dI h p0 0 (p4 + (1 : Int32))).bind fun x785 =>
        (dI h p0 0 (p4 + (2 : Int32))).bind fun x787 =>
        bnd2 (f_X0_predictDue E p1 x785 x787 p3 h) fun x791 h789 =>
        (dI h789 p0 0 (p4 + (1 : Int32))).bind fun x792 =>
        (dI h789 p0 0 (p4 + (2 : Int32))).bind fun x794 =>
        (cko h789 p2 1).bind fun _ =>
        bnd2 (f_X6_predictDue E p2 x792 x794 h789) fun x799 h797 =>
        (cko h797 p2 1).bind fun _ =>
        bnd2 (f_X6_thrown E p2 h797) fun x803 h801 =>
        if x803 = x791 then (
          if x791 = 0 then (
            (dL h801 p3 (0 : Int32)).bind fun x806 =>
            if x806 = x799 then (
              f_L_law_b2416 E (f_L_law_l23 E n) p0 p1 p2 p3 p4 h801
            ) else (
              some ((0 : Int32), h801)
            )
          ) else (
            f_L_law_b2416 E (f_L_law_l23 E n) p0 p1 p2 p3 p4 h801
          )
        ) else (
          some ((0 : Int32), h801)
        )
      ) else (
      if (x4 &&& (63 : Int32)) = 37 then (
        (dI h p0 0 (p4 + (1 : Int32))).bind fun x810 =>
        bnd2 (f_X0_balance E p1 x810 p3 h) fun x814 h812 =>
        (dI h812 p0 0 (p4 + (1 : Int32))).bind fun x815 =>
        (cko h812 p2 1).bind fun _ =>
        bnd2 (f_X6_balance E p2 x815 h812) fun x820 h818 =>
        (cko h818 p2 1).bind fun _ =>
        bnd2 (f_X6_thrown E p2 h818) fun x824 h822 =>
        if x824 = x814 then (
          if x814 = 0 then (
            (dL h822 p3 (0 : Int32)).bind fun x827 =>
            if x827 = x820 then (
              f_L_law_b2471 E (f_L_law_l23 E n) p0 p1 p2 p3 p4 h822
            ) else (
              some ((0 : Int32), h822)
            )
          ) else (
            f_L_law_b2471 E (f_L_law_l23 E n) p0 p1 p2 p3 p4 h822
          )
        ) else (
          some ((0 : Int32), h822)
        )
      ) else (
      if (x4 &&& (63 : Int32)) = 38 then (
        (cko h p1 0).bind fun _ =>
        bnd2 (f_X1_totalOwed E p1 h) fun x834 h832 =>
        (cko h832 p2 1).bind fun _ =>
        bnd2 (f_X6_totalOwed E p2 h832) fun x838 h836 =>
        if x834 = x838 then (
          f_L_law_b4006 E (f_L_law_l23 E n) p0 p1 p2 p3 p4 h836
        ) else (
          some ((0 : Int32), h836)
        )
      ) else (
      if (x4 &&& (63 : Int32)) = 39 then (
        (dI h p0 0 (p4 + (1 : Int32))).bind fun x841 =>
        (dI h p0 0 (p4 + (2 : Int32))).bind fun x843 =>
        (dI h p0 0 (p4 + (3 : Int32))).bind fun x845 =>
        bnd2 (f_X0_pay E p1 x841 (((x843.toInt64) <<< ((32 : Int32).toInt64 &&& 63)) ||| ((x845.toInt64) &&& (4294967295 : Int64))) p3 h) fun x849 h847 =>
        (dI h847 p0 0 (p4 + (1 : Int32))).bind fun x850 =>
        (dI h847 p0 0 (p4 + (2 : Int32))).bind fun x852 =>
        (dI h847 p0 0 (p4 + (3 : Int32))).bind fun x854 =>
        (cko h847 p2 1).bind fun _ =>
        bnd2 (f_X6_pay E p2 x850 (((x852.toInt64) <<< ((32 : Int32).toInt64 &&& 63)) ||| ((x854.toInt64) &&& (4294967295 : Int64))) h847) fun x859 h857 =>
        (cko h857 p2 1).bind fun _ =>
        bnd2 (f_X6_thrown E p2 h857) fun x863 h861 =>
        if x863 = x849 then (
          if x849 = 0 then (
            (dL h861 p3 (0 : Int32)).bind fun x866 =>
            if x866 = x859 then (
              f_L_law_b2584 E (f_L_law_l23 E n) p0 p1 p2 p3 p4 h861
            ) else (
              some ((0 : Int32), h861)
            )
          ) else (
            f_L_law_b2584 E (f_L_law_l23 E n) p0 p1 p2 p3 p4 h861
          )
        ) else (
          some ((0 : Int32), h861)
        )
      ) else (
      if (x4 &&& (63 : Int32)) = 40 then (
        (dI h p0 0 (p4 + (1 : Int32))).bind fun x870 =>
        bnd2 (f_X0_monthsOverdue E p1 x870 p3 h) fun x874 h872 =>
        (dI h872 p0 0 (p4 + (1 : Int32))).bind fun x875 =>
        (cko h872 p2 1).bind fun _ =>
        bnd2 (f_X6_monthsOverdue E p2 x875 h872) fun x880 h878 =>
        (cko h878 p2 1).bind fun _ =>
        bnd2 (f_X6_thrown E p2 h878) fun x884 h882 =>
        if x884 = x874 then (
          if x874 = 0 then (
            (dL h882 p3 (0 : Int32)).bind fun x887 =>
            if x887 = (x880.toInt64) then (
              f_L_law_b2640 E (f_L_law_l23 E n) p0 p1 p2 p3 p4 h882
            ) else (
              some ((0 : Int32), h882)
            )
          ) else (
            f_L_law_b2640 E (f_L_law_l23 E n) p0 p1 p2 p3 p4 h882
          )
        ) else (
          some ((0 : Int32), h882)
        )
      ) else (
      if (x4 &&& (63 : Int32)) = 41 then (
        (dI h p0 0 (p4 + (1 : Int32))).bind fun x891 =>
        (dI h p0 0 (p4 + (2 : Int32))).bind fun x893 =>
        (dI h p0 0 (p4 + (3 : Int32))).bind fun x895 =>
        bnd2 (f_X0_payOff E p1 x891 (((x893.toInt64) <<< ((32 : Int32).toInt64 &&& 63)) ||| ((x895.toInt64) &&& (4294967295 : Int64))) p3 h) fun x899 h897 =>
        (dI h897 p0 0 (p4 + (1 : Int32))).bind fun x900 =>
        (dI h897 p0 0 (p4 + (2 : Int32))).bind fun x902 =>
        (dI h897 p0 0 (p4 + (3 : Int32))).bind fun x904 =>
        (cko h897 p2 1).bind fun _ =>
        bnd2 (f_X6_payOff E p2 x900 (((x902.toInt64) <<< ((32 : Int32).toInt64 &&& 63)) ||| ((x904.toInt64) &&& (4294967295 : Int64))) h897) fun x909 h907 =>
        (cko h907 p2 1).bind fun _ =>
        bnd2 (f_X6_thrown E p2 h907) fun x913 h911 =>
        if x913 = x899 then (
          if x899 = 0 then (
            (dL h911 p3 (0 : Int32)).bind fun x916 =>
            if x916 = (x909.toInt64) then (
              f_L_law_b2740 E (f_L_law_l23 E n) p0 p1 p2 p3 p4 h911
            ) else (
              some ((0 : Int32), h911)
            )
          ) else (
            f_L_law_b2740 E (f_L_law_l23 E n) p0 p1 p2 p3 p4 h911
          )
        ) else (
          some ((0 : Int32), h911)
        )
      ) else (
      if (x4 &&& (63 : Int32)) = 42 then (
        (dI h p0 0 (p4 + (1 : Int32))).bind fun x920 =>
        bnd2 (f_X0_terminate E p1 x920 p3 h) fun x924 h922 =>
        (dI h922 p0 0 (p4 + (1 : Int32))).bind fun x925 =>
        (cko h922 p2 1).bind fun _ =>
        bnd2 (f_X6_terminate E p2 x925 h922) fun x930 h928 =>
        (cko h928 p2 1).bind fun _ =>
        bnd2 (f_X6_thrown E p2 h928) fun x934 h932 =>
        if x934 = x924 then (
          if x924 = 0 then (
            (dL h932 p3 (0 : Int32)).bind fun x937 =>
            if x930 = 0 then (
              f_L_law_b2797 E (f_L_law_l23 E n) p0 p1 p2 p3 p4 x937 (0 : Int64) h932
            ) else (
              f_L_law_b2797 E (f_L_law_l23 E n) p0 p1 p2 p3 p4 x937 (1 : Int64) h932
            )
          ) else (
            f_L_law_b2803 E (f_L_law_l23 E n) p0 p1 p2 p3 p4 h932
          )
        ) else (
          some ((0 : Int32), h932)
        )
      ) else (
      if (x4 &&& (63 : Int32)) = 43 then (
        (dI h p0 0 (p4 + (1 : Int32))).bind fun x941 =>
        bnd2 (f_X0_status E p1 x941 p3 h) fun x945 h943 =>
        (dI h943 p0 0 (p4 + (1 : Int32))).bind fun x946 =>
        (cko h943 p2 1).bind fun _ =>
        bnd2 (f_X6_status E p2 x946 h943) fun x951 h949 =>
        (cko h949 p2 1).bind fun _ =>
        bnd2 (f_X6_thrown E p2 h949) fun x955 h953 =>
        if x955 = x945 then (
          if x945 = 0 then (
            (dL h953 p3 (0 : Int32)).bind fun x958 =>
            if x958 = (x951.toInt64) then (
              f_L_law_b2859 E (f_L_law_l23 E n) p0 p1 p2 p3 p4 h953
            ) else (
              some ((0 : Int32), h953)
            )
          ) else (
            f_L_law_b2859 E (f_L_law_l23 E n) p0 p1 p2 p3 p4 h953
          )
        ) else (
          some ((0 : Int32), h953)
        )
      ) else (
      if (x4 &&& (63 : Int32)) = 44 then (
        (cko h p1 0).bind fun _ =>
        bnd2 (f_X1_fundBalance E p1 h) fun x965 h963 =>
        (cko h963 p2 1).bind fun _ =>
        bnd2 (f_X6_fundBalance E p2 h963) fun x969 h967 =>
        if x965 = x969 then (
          f_L_law_b4006 E (f_L_law_l23 E n) p0 p1 p2 p3 p4 h967
        ) else (
          some ((0 : Int32), h967)
        )
      ) else (
      if (x4 &&& (63 : Int32)) = 45 then (
        (dI h p0 0 (p4 + (1 : Int32))).bind fun x972 =>
        bnd2 (f_X0_contributions E p1 x972 p3 h) fun x976 h974 =>
        (dI h974 p0 0 (p4 + (1 : Int32))).bind fun x977 =>
        (cko h974 p2 1).bind fun _ =>
        bnd2 (f_X6_contributions E p2 x977 h974) fun x982 h980 =>
        (cko h980 p2 1).bind fun _ =>
        bnd2 (f_X6_thrown E p2 h980) fun x986 h984 =>
        if x986 = x976 then (
          if x976 = 0 then (
            (dL h984 p3 (0 : Int32)).bind fun x989 =>
            if x989 = x982 then (
              f_L_law_b2928 E (f_L_law_l23 E n) p0 p1 p2 p3 p4 h984
            ) else (
              some ((0 : Int32), h984)
            )
          ) else (
            f_L_law_b2928 E (f_L_law_l23 E n) p0 p1 p2 p3 p4 h984
          )
        ) else (
          some ((0 : Int32), h984)
        )
      ) else (
      if (x4 &&& (63 : Int32)) = 46 then (
        (dI h p0 0 (p4 + (1 : Int32))).bind fun x993 =>
        bnd2 (f_X0_spent E p1 x993 p3 h) fun x997 h995 =>
        (dI h995 p0 0 (p4 + (1 : Int32))).bind fun x998 =>
        (cko h995 p2 1).bind fun _ =>
        bnd2 (f_X6_spent E p2 x998 h995) fun x1003 h1001 =>
        (cko h1001 p2 1).bind fun _ =>
        bnd2 (f_X6_thrown E p2 h1001) fun x1007 h1005 =>
        if x1007 = x997 then (
          if x997 = 0 then (
            (dL h1005 p3 (0 : Int32)).bind fun x1010 =>
            if x1010 = x1003 then (
              f_L_law_b2983 E (f_L_law_l23 E n) p0 p1 p2 p3 p4 h1005
            ) else (
              some ((0 : Int32), h1005)
            )
          ) else (
            f_L_law_b2983 E (f_L_law_l23 E n) p0 p1 p2 p3 p4 h1005
          )
        ) else (
          some ((0 : Int32), h1005)
        )
      ) else (
      if (x4 &&& (63 : Int32)) = 47 then (
        (dI h p0 0 (p4 + (1 : Int32))).bind fun x1014 =>
        (dI h p0 0 (p4 + (2 : Int32))).bind fun x1016 =>
        bnd2 (f_X0_campaign E p1 (((x1014.toInt64) <<< ((32 : Int32).toInt64 &&& 63)) ||| ((x1016.toInt64) &&& (4294967295 : Int64))) p3 h) fun x1020 h1018 =>
        (dI h1018 p0 0 (p4 + (1 : Int32))).bind fun x1021 =>
        (dI h1018 p0 0 (p4 + (2 : Int32))).bind fun x1023 =>
        (cko h1018 p2 1).bind fun _ =>
        bnd2 (f_X6_campaign E p2 (((x1021.toInt64) <<< ((32 : Int32).toInt64 &&& 63)) ||| ((x1023.toInt64) &&& (4294967295 : Int64))) h1018) fun x1028 h1026 =>
        (cko h1026 p2 1).bind fun _ =>
        bnd2 (f_X6_thrown E p2 h1026) fun x1032 h1030 =>
        if x1032 = x1020 then (
          if x1020 = 0 then (
            (dL h1030 p3 (0 : Int32)).bind fun x1035 =>
            if x1028 = 0 then (
              f_L_law_b3072 E (f_L_law_l23 E n) p0 p1 p2 p3 p4 x1035 (0 : Int64) h1030
            ) else (
              f_L_law_b3072 E (f_L_law_l23 E n) p0 p1 p2 p3 p4 x1035 (1 : Int64) h1030
            )
          ) else (
            f_L_law_b3078 E (f_L_law_l23 E n) p0 p1 p2 p3 p4 h1030
          )
        ) else (
          some ((0 : Int32), h1030)
        )
      ) else (
      if (x4 &&& (63 : Int32)) = 48 then (
        (dI h p0 0 (p4 + (1 : Int32))).bind fun x1039 =>
        (dI h p0 0 (p4 + (2 : Int32))).bind fun x1041 =>
        (dI h p0 0 (p4 + (3 : Int32))).bind fun x1043 =>
        bnd2 (f_X0_grant E p1 x1039 (((x1041.toInt64) <<< ((32 : Int32).toInt64 &&& 63)) ||| ((x1043.toInt64) &&& (4294967295 : Int64))) p3 h) fun x1047 h1045 =>
        (dI h1045 p0 0 (p4 + (1 : Int32))).bind fun x1048 =>
        (dI h1045 p0 0 (p4 + (2 : Int32))).bind fun x1050 =>
        (dI h1045 p0 0 (p4 + (3 : Int32))).bind fun x1052 =>
        (cko h1045 p2 1).bind fun _ =>
        bnd2 (f_X6_grant E p2 x1048 (((x1050.toInt64) <<< ((32 : Int32).toInt64 &&& 63)) ||| ((x1052.toInt64) &&& (4294967295 : Int64))) h1045) fun x1057 h1055 =>
        (cko h1055 p2 1).bind fun _ =>
        bnd2 (f_X6_thrown E p2 h1055) fun x1061 h1059 =>
        if x1061 = x1047 then (
          if x1047 = 0 then (
            (dL h1059 p3 (0 : Int32)).bind fun x1064 =>
            if x1057 = 0 then (
              f_L_law_b3179 E (f_L_law_l23 E n) p0 p1 p2 p3 p4 x1064 (0 : Int64) h1059
            ) else (
              f_L_law_b3179 E (f_L_law_l23 E n) p0 p1 p2 p3 p4 x1064 (1 : Int64) h1059
            )
          ) else (
            f_L_law_b3185 E (f_L_law_l23 E n) p0 p1 p2 p3 p4 h1059
          )
        ) else (
          some ((0 : Int32), h1059)
        )
      ) else (
      if (x4 &&& (63 : Int32)) = 49 then (
        (dI h p0 0 (p4 + (1 : Int32))).bind fun x1068 =>
        bnd2 (f_X0_allowance E p1 x1068 p3 h) fun x1072 h1070 =>
        (dI h1070 p0 0 (p4 + (1 : Int32))).bind fun x1073 =>
        (cko h1070 p2 1).bind fun _ =>
        bnd2 (f_X6_allowance E p2 x1073 h1070) fun x1078 h1076 =>
        (cko h1076 p2 1).bind fun _ =>
        bnd2 (f_X6_thrown E p2 h1076) fun x1082 h1080 =>
        if x1082 = x1072 then (
          if x1072 = 0 then (
            (dL h1080 p3 (0 : Int32)).bind fun x1085 =>
            if x1085 = x1078 then (
              f_L_law_b3240 E (f_L_law_l23 E n) p0 p1 p2 p3 p4 h1080
            ) else (
              some ((0 : Int32), h1080)
            )
          ) else (
            f_L_law_b3240 E (f_L_law_l23 E n) p0 p1 p2 p3 p4 h1080
          )
        ) else (
          some ((0 : Int32), h1080)
        )
      ) else (
      if (x4 &&& (63 : Int32)) = 50 then (
        (dI h p0 0 (p4 + (1 : Int32))).bind fun x1089 =>
        bnd2 (f_X0_nationalShare E p1 x1089 p3 h) fun x1093 h1091 =>
        (dI h1091 p0 0 (p4 + (1 : Int32))).bind fun x1094 =>
        (cko h1091 p2 1).bind fun _ =>
        bnd2 (f_X6_nationalShare E p2 x1094 h1091) fun x1099 h1097 =>
        (cko h1097 p2 1).bind fun _ =>
        bnd2 (f_X6_thrown E p2 h1097) fun x1103 h1101 =>
        if x1103 = x1093 then (
          if x1093 = 0 then (
            (dL h1101 p3 (0 : Int32)).bind fun x1106 =>
            if x1106 = x1099 then (
              f_L_law_b3295 E (f_L_law_l23 E n) p0 p1 p2 p3 p4 h1101
            ) else (
              some ((0 : Int32), h1101)
            )
          ) else (
            f_L_law_b3295 E (f_L_law_l23 E n) p0 p1 p2 p3 p4 h1101
          )
        ) else (
          some ((0 : Int32), h1101)
        )
      ) else (
      if (x4 &&& (63 : Int32)) = 51 then (
        (dI h p0 0 (p4 + (1 : Int32))).bind fun x1110 =>
        (dI h p0 0 (p4 + (2 : Int32))).bind fun x1112 =>
        (dI h p0 0 (p4 + (3 : Int32))).bind fun x1114 =>
        (dI h p0 0 (p4 + (4 : Int32))).bind fun x1116 =>
        bnd2 (f_X0_requestTransfer E p1 x1110 x1112 (((x1114.toInt64) <<< ((32 : Int32).toInt64 &&& 63)) ||| ((x1116.toInt64) &&& (4294967295 : Int64))) p3 h) fun x1120 h1118 =>
        (dI h1118 p0 0 (p4 + (1 : Int32))).bind fun x1121 =>
        (dI h1118 p0 0 (p4 + (2 : Int32))).bind fun x1123 =>
        (dI h1118 p0 0 (p4 + (3 : Int32))).bind fun x1125 =>
        (dI h1118 p0 0 (p4 + (4 : Int32))).bind fun x1127 =>
        (cko h1118 p2 1).bind fun _ =>
        bnd2 (f_X6_requestTransfer E p2 x1121 x1123 (((x1125.toInt64) <<< ((32 : Int32).toInt64 &&& 63)) ||| ((x1127.toInt64) &&& (4294967295 : Int64))) h1118) fun x1132 h1130 =>
        (cko h1130 p2 1).bind fun _ =>
        bnd2 (f_X6_thrown E p2 h1130) fun x1136 h1134 =>
        if x1136 = x1120 then (
          if x1120 = 0 then (
            (dL h1134 p3 (0 : Int32)).bind fun x1139 =>
            if x1132 = 0 then (
              f_L_law_b3408 E (f_L_law_l23 E n) p0 p1 p2 p3 p4 x1139 (0 : Int64) h1134
            ) else (
              f_L_law_b3408 E (f_L_law_l23 E n) p0 p1 p2 p3 p4 x1139 (1 : Int64) h1134
            )
          ) else (
            f_L_law_b3414 E (f_L_law_l23 E n) p0 p1 p2 p3 p4 h1134
          )
        ) else (
          some ((0 : Int32), h1134)
        )
      ) else (
      if (x4 &&& (63 : Int32)) = 52 then (
        (dI h p0 0 (p4 + (1 : Int32))).bind fun x1143 =>
        (dI h p0 0 (p4 + (2 : Int32))).bind fun x1145 =>
        (dI h p0 0 (p4 + (3 : Int32))).bind fun x1147 =>
        if x1147 = 0 then (
          f_L_law_b3444 E (f_L_law_l23 E n) p0 p1 p2 p3 p4 p1 x1143 x1145 (0 : Int32) h
        ) else (
          f_L_law_b3444 E (f_L_law_l23 E n) p0 p1 p2 p3 p4 p1 x1143 x1145 (1 : Int32) h
        )
      ) else (
      if (x4 &&& (63 : Int32)) = 53 then (
        (dI h p0 0 (p4 + (1 : Int32))).bind fun x1151 =>
        bnd2 (f_X0_exercise E p1 x1151 p3 h) fun x1155 h1153 =>
        (dI h1153 p0 0 (p4 + (1 : Int32))).bind fun x1156 =>
        (cko h1153 p2 1).bind fun _ =>
        bnd2 (f_X6_exercise E p2 x1156 h1153) fun x1161 h1159 =>
        (cko h1159 p2 1).bind fun _ =>
        bnd2 (f_X6_thrown E p2 h1159) fun x1165 h1163 =>
        if x1165 = x1155 then (
          if x1155 = 0 then (
            (dL h1163 p3 (0 : Int32)).bind fun x1168 =>
            if x1161 = 0 then (
              f_L_law_b3567 E (f_L_law_l23 E n) p0 p1 p2 p3 p4 x1168 (0 : Int64) h1163
            ) else (
              f_L_law_b3567 E (f_L_law_l23 E n) p0 p1 p2 p3 p4 x1168 (1 : Int64) h1163
            )
          ) else (
            f_L_law_b3573 E (f_L_law_l23 E n) p0 p1 p2 p3 p4 h1163
          )
        ) else (
          some ((0 : Int32), h1163)
        )
      ) else (
      if (x4 &&& (63 : Int32)) = 54 then (
        (dI h p0 0 (p4 + (1 : Int32))).bind fun x1172 =>
        bnd2 (f_X0_withdraw E p1 x1172 p3 h) fun x1176 h1174 =>
        (dI h1174 p0 0 (p4 + (1 : Int32))).bind fun x1177 =>
        (cko h1174 p2 1).bind fun _ =>
        bnd2 (f_X6_withdraw E p2 x1177 h1174) fun x1182 h1180 =>
        (cko h1180 p2 1).bind fun _ =>
        bnd2 (f_X6_thrown E p2 h1180) fun x1186 h1184 =>
        if x1186 = x1176 then (
          if x1176 = 0 then (
            (dL h1184 p3 (0 : Int32)).bind fun x1189 =>
            if x1182 = 0 then (
              f_L_law_b3630 E (f_L_law_l23 E n) p0 p1 p2 p3 p4 x1189 (0 : Int64) h1184
            ) else (
              f_L_law_b3630 E (f_L_law_l23 E n) p0 p1 p2 p3 p4 x1189 (1 : Int64) h1184
            )
          ) else (
            f_L_law_b3636 E (f_L_law_l23 E n) p0 p1 p2 p3 p4 h1184
          )
        ) else (
          some ((0 : Int32), h1184)
        )
      ) else (
      if (x4 &&& (63 : Int32)) = 55 then (
        (dI h p0 0 (p4 + (1 : Int32))).bind fun x1193 =>
        bnd2 (f_X0_transferState E p1 x1193 p3 h) fun x1197 h1195 =>
        (dI h1195 p0 0 (p4 + (1 : Int32))).bind fun x1198 =>
        (cko h1195 p2 1).bind fun _ =>
        bnd2 (f_X6_transferState E p2 x1198 h1195) fun x1203 h1201 =>
        (cko h1201 p2 1).bind fun _ =>
        bnd2 (f_X6_thrown E p2 h1201) fun x1207 h1205 =>
        if x1207 = x1197 then (
          if x1197 = 0 then (
            (dL h1205 p3 (0 : Int32)).bind fun x1210 =>
            if x1210 = (x1203.toInt64) then (
              f_L_law_b3692 E (f_L_law_l23 E n) p0 p1 p2 p3 p4 h1205
            ) else (
              some ((0 : Int32), h1205)
            )
          ) else (
            f_L_law_b3692 E (f_L_law_l23 E n) p0 p1 p2 p3 p4 h1205
          )
        ) else (
          some ((0 : Int32), h1205)
        )
      ) else (
      if (x4 &&& (63 : Int32)) = 56 then (
        (dI h p0 0 (p4 + (1 : Int32))).bind fun x1214 =>
        bnd2 (f_X0_transferWait E p1 x1214 p3 h) fun x1218 h1216 =>
        (dI h1216 p0 0 (p4 + (1 : Int32))).bind fun x1219 =>
        (cko h1216 p2 1).bind fun _ =>
        bnd2 (f_X6_transferWait E p2 x1219 h1216) fun x1224 h1222 =>
        (cko h1222 p2 1).bind fun _ =>
        bnd2 (f_X6_thrown E p2 h1222) fun x1228 h1226 =>
        if x1228 = x1218 then (
          if x1218 = 0 then (
            (dL h1226 p3 (0 : Int32)).bind fun x1231 =>
            if x1231 = (x1224.toInt64) then (
              f_L_law_b3748 E (f_L_law_l23 E n) p0 p1 p2 p3 p4 h1226
            ) else (
              some ((0 : Int32), h1226)
            )
          ) else (
            f_L_law_b3748 E (f_L_law_l23 E n) p0 p1 p2 p3 p4 h1226
          )
        ) else (
          some ((0 : Int32), h1226)
        )
      ) else (
      if (x4 &&& (63 : Int32)) = 57 then (
        (dI h p0 0 (p4 + (1 : Int32))).bind fun x1235 =>
        bnd2 (f_X0_generation E p1 x1235 p3 h) fun x1239 h1237 =>
        (dI h1237 p0 0 (p4 + (1 : Int32))).bind fun x1240 =>
        (cko h1237 p2 1).bind fun _ =>
        bnd2 (f_X6_generation E p2 x1240 h1237) fun x1245 h1243 =>
        (cko h1243 p2 1).bind fun _ =>
        bnd2 (f_X6_thrown E p2 h1243) fun x1249 h1247 =>
        if x1249 = x1239 then (
          if x1239 = 0 then (
            (dL h1247 p3 (0 : Int32)).bind fun x1252 =>
            if x1252 = (x1245.toInt64) then (
              f_L_law_b3804 E (f_L_law_l23 E n) p0 p1 p2 p3 p4 h1247
            ) else (
              some ((0 : Int32), h1247)
            )
          ) else (
            f_L_law_b3804 E (f_L_law_l23 E n) p0 p1 p2 p3 p4 h1247
          )
        ) else (
          some ((0 : Int32), h1247)
        )
      ) else (
      if (x4 &&& (63 : Int32)) = 58 then (
        (dI h p0 0 (p4 + (1 : Int32))).bind fun x1256 =>
        bnd2 (f_X0_worth E p1 x1256 p3 h) fun x1260 h1258 =>
        (dI h1258 p0 0 (p4 + (1 : Int32))).bind fun x1261 =>
        (cko h1258 p2 1).bind fun _ =>
        bnd2 (f_X6_worth E p2 x1261 h1258) fun x1266 h1264 =>
        (cko h1264 p2 1).bind fun _ =>
        bnd2 (f_X6_thrown E p2 h1264) fun x1270 h1268 =>
        if x1270 = x1260 then (
          if x1260 = 0 then (
            (dL h1268 p3 (0 : Int32)).bind fun x1273 =>
            if x1273 = (x1266.toInt64) then (
              f_L_law_b3860 E (f_L_law_l23 E n) p0 p1 p2 p3 p4 h1268
            ) else (
              some ((0 : Int32), h1268)
            )
          ) else (
            f_L_law_b3860 E (f_L_law_l23 E n) p0 p1 p2 p3 p4 h1268
          )
        ) else (
          some ((0 : Int32), h1268)
        )
      ) else (
      if (x4 &&& (63 : Int32)) = 59 then (
        (dI h p0 0 (p4 + (1 : Int32))).bind fun x1277 =>
        (cko h p1 0).bind fun _ =>
        bnd2 (f_X1_saveSnapshot E p1 x1277 h) fun x1282 h1280 =>
        (dI h1280 p0 0 (p4 + (1 : Int32))).bind fun x1283 =>
        (cko h1280 p2 1).bind fun _ =>
        bnd2 (f_X6_saveSnapshot E p2 x1283 h1280) fun x1288 h1286 =>
        if x1282 = x1288 then (
          f_L_law_b4006 E (f_L_law_l23 E n) p0 p1 p2 p3 p4 h1286
        ) else (
          some ((0 : Int32), h1286)
        )
      ) else (
      if (x4 &&& (63 : Int32)) = 60 then (
        (dI h p0 0 (p4 + (1 : Int32))).bind fun x1291 =>
        (cko h p1 0).bind fun _ =>
        bnd2 (f_X1_restoreSnapshot E p1 x1291 h) fun x1296 h1294 =>
        (dI h1294 p0 0 (p4 + (1 : Int32))).bind fun x1297 =>
        (cko h1294 p2 1).bind fun _ =>
        bnd2 (f_X6_restoreSnapshot E p2 x1297 h1294) fun x1302 h1300 =>
        if x1296 = x1302 then (
          f_L_law_b4006 E (f_L_law_l23 E n) p0 p1 p2 p3 p4 h1300
        ) else (
          some ((0 : Int32), h1300)
        )
      ) else (
      if (x4 &&& (63 : Int32)) = 61 then (
        (dI h p0 0 (p4 + (1 : Int32))).bind fun x1305 =>
        (dI h p0 0 (p4 + (2 : Int32))).bind fun x1307 =>
        bnd2 (f_X0_formatInvoice E p1 x1305 x1307 p3 h) fun x1311 h1309 =>
        (dI h1309 p0 0 (p4 + (1 : Int32))).bind fun x1312 =>
        (dI h1309 p0 0 (p4 + (2 : Int32))).bind fun x1314 =>
        (cko h1309 p2 1).bind fun _ =>
        bnd2 (f_X6_formatInvoice E p2 x1312 x1314 h1309) fun x1319 h1317 =>
        (cko h1317 p2 1).bind fun _ =>
        bnd2 (f_X6_thrown E p2 h1317) fun x1323 h1321 =>
        if x1323 = x1311 then (
          if x1311 = 0 then (
            (dL h1321 p3 (0 : Int32)).bind fun x1326 =>
            if x1326 = (x1319.toInt64) then (
              f_L_law_b3978 E (f_L_law_l23 E n) p0 p1 p2 p3 p4 h1321
            ) else (
              some ((0 : Int32), h1321)
            )
          ) else (
            f_L_law_b3978 E (f_L_law_l23 E n) p0 p1 p2 p3 p4 h1321
          )
        ) else (
          some ((0 : Int32), h1321)
        )
      ) else (
      if (x4 &&& (63 : Int32)) = 62 then (
        (dI h p0 0 (p4 + (1 : Int32))).bind fun x1330 =>
        (cko h p1 0).bind fun _ =>
        bnd2 (f_X1_formattedByte E p1 x1330 h) fun x1335 h1333 =>
        (dI h1333 p0 0 (p4 + (1 : Int32))).bind fun x1336 =>
        (cko h1333 p2 1).bind fun _ =>
        bnd2 (f_X6_formattedByte E p2 x1336 h1333) fun x1341 h1339 =>
        if x1335 = x1341 then (
          f_L_law_b4006 E (f_L_law_l23 E n) p0 p1 p2 p3 p4 h1339
        ) else (
          some ((0 : Int32), h1339)
        )
      ) else (
        f_L_law_b4006 E (f_L_law_l23 E n) p0 p1 p2 p3 p4 h
      )))))))))))))))))))))))))))))))))))))))))))))))))))))))))))))))
    )
theorem w_L_law_l23 (C0 : zCx p l e R s m args below meth c D B0 8 "FranchiseLedgerLaw" cL_law E 17 417 (Option.some Jvm.ClassFile.FieldType.boolean) "law") {r : Int32} {h' : zH} : ∀ (n : Nat) (p0 : Nat) (p1 : Nat) (p2 : Nat) (p3 : Nat) (p4 : Int32) (h : zH), f_L_law_l23 E n p0 p1 p2 p3 p4 h = some (r, h') → zW p l e R s m args below meth c D B0 8 (zEnd D B0 R below args s (zoI r) h') h 23 [(0, .ref p0), (1, .ref p1), (2, .ref p2), (3, .ref p3), (4, .int p4)] [] := by
  intro n
  induction n with
  | zero =>
    intro p0 p1 p2 p3 p4 h hf
    unfold f_L_law_l23 at hf
    cases hf
  | succ n ih =>
    intro p0 p1 p2 p3 p4 h hf
    unfold f_L_law_l23 at hf
    refine zr_iload C0 dL_law_23 4 rfl ?_
    refine zr_aload_n C0 dL_law_25 rfl 0 rfl ?_
    obtain ⟨x1, e2, hf⟩ := zbind hf
    refine zr_alen C0 dL_law_26 e2 ?_
    refine zr_bipush C0 (v := 7) dL_law_27 (by decide) ?_
    refine zr_isub C0 dL_law_29 ?_
    refine zr_icmp_gt C0 (tgt := 4012) dL_law_30 (by decide) (fun c3 => ?_) (fun c3 => ?_)
    · have hf := zif_t c3 hf
      refine zr_iconst C0 (v := 1) dL_law_4012 (by decide) ?_
      refine zretW hf ?_
      exact zr_iret C0 (ty := .boolean) rfl (by decide) dL_law_4013 rfl
    · have hf := zif_f c3 hf
      refine zr_aload_n C0 dL_law_33 rfl 0 rfl ?_
      refine zr_iload C0 dL_law_34 4 rfl ?_
      obtain ⟨x4, e5, hf⟩ := zbind hf
      refine zr_iald C0 dL_law_36 e5 ?_
      refine zr_bipush C0 (v := 63) dL_law_37 (by decide) ?_
      refine zr_iand C0 dL_law_39 ?_
      rcases Decidable.em ((x4 &&& (63 : Int32)) = 0) with c6 | c6
      · have hf := zif_t c6 hf
        refine zr_tableIn C0 (v := 0) (tgt := 308) dL_law_40 c6 (by decide) (by decide) rfl (by decide) ?_
        refine zr_aload_n C0 dL_law_308 rfl 1 rfl ?_
        refine zr_aload_n C0 dL_law_309 rfl 0 rfl ?_
        refine zr_iload C0 dL_law_310 4 rfl ?_
        refine zr_iconst C0 (v := 1) dL_law_312 (by decide) ?_
        refine zr_iadd C0 dL_law_313 ?_
        obtain ⟨x7, e8, hf⟩ := zbind hf
        refine zr_iald C0 dL_law_314 e8 ?_
        refine zr_aload_n C0 dL_law_315 rfl 0 rfl ?_
        refine zr_iload C0 dL_law_316 4 rfl ?_
        refine zr_iconst C0 (v := 2) dL_law_318 (by decide) ?_
        refine zr_iadd C0 dL_law_319 ?_
        obtain ⟨x9, e10, hf⟩ := zbind hf
        refine zr_iald C0 dL_law_320 e10 ?_
        refine zr_aload_n C0 dL_law_321 rfl 0 rfl ?_
        refine zr_iload C0 dL_law_322 4 rfl ?_
        refine zr_iconst C0 (v := 3) dL_law_324 (by decide) ?_
        refine zr_iadd C0 dL_law_325 ?_
        obtain ⟨x11, e12, hf⟩ := zbind hf
        refine zr_iald C0 dL_law_326 e12 ?_
        refine zr_aload_n C0 dL_law_327 rfl 0 rfl ?_
        refine zr_iload C0 dL_law_328 4 rfl ?_
        refine zr_iconst C0 (v := 4) dL_law_330 (by decide) ?_
        refine zr_iadd C0 dL_law_331 ?_
        obtain ⟨x13, e14, hf⟩ := zbind hf
        refine zr_iald C0 dL_law_332 e14 ?_
        refine zr_aload_n C0 dL_law_333 rfl 0 rfl ?_
        refine zr_iload C0 dL_law_334 4 rfl ?_
        refine zr_iconst C0 (v := 5) dL_law_336 (by decide) ?_
        refine zr_iadd C0 dL_law_337 ?_
        obtain ⟨x15, e16, hf⟩ := zbind hf
        refine zr_iald C0 dL_law_338 e16 ?_
        obtain ⟨_, e17, hf⟩ := zbind hf
        obtain ⟨x20, h18, e19, hf⟩ := zbind2 hf
        refine zr_callV_r C0 cv_X0_179_X1 rfl (zcko e17) (m_X1_appendInput C0.2.2.2.2.2.2.1 e19) (by decide) (by decide) rfl rfl (Nat.le_of_ble_eq_true rfl) dL_law_339 rfl ?_
        refine zr_aload_n C0 dL_law_342 rfl 2 rfl ?_
        refine zr_aload_n C0 dL_law_343 rfl 0 rfl ?_
        refine zr_iload C0 dL_law_344 4 rfl ?_
        refine zr_iconst C0 (v := 1) dL_law_346 (by decide) ?_
        refine zr_iadd C0 dL_law_347 ?_
        obtain ⟨x21, e22, hf⟩ := zbind hf
        refine zr_iald C0 dL_law_348 e22 ?_
        refine zr_aload_n C0 dL_law_349 rfl 0 rfl ?_
        refine zr_iload C0 dL_law_350 4 rfl ?_
        refine zr_iconst C0 (v := 2) dL_law_352 (by decide) ?_
        refine zr_iadd C0 dL_law_353 ?_
        obtain ⟨x23, e24, hf⟩ := zbind hf
        refine zr_iald C0 dL_law_354 e24 ?_
        refine zr_aload_n C0 dL_law_355 rfl 0 rfl ?_
        refine zr_iload C0 dL_law_356 4 rfl ?_
        refine zr_iconst C0 (v := 3) dL_law_358 (by decide) ?_
        refine zr_iadd C0 dL_law_359 ?_
        obtain ⟨x25, e26, hf⟩ := zbind hf
        refine zr_iald C0 dL_law_360 e26 ?_
        refine zr_aload_n C0 dL_law_361 rfl 0 rfl ?_
        refine zr_iload C0 dL_law_362 4 rfl ?_
        refine zr_iconst C0 (v := 4) dL_law_364 (by decide) ?_
        refine zr_iadd C0 dL_law_365 ?_
        obtain ⟨x27, e28, hf⟩ := zbind hf
        refine zr_iald C0 dL_law_366 e28 ?_
        refine zr_aload_n C0 dL_law_367 rfl 0 rfl ?_
        refine zr_iload C0 dL_law_368 4 rfl ?_
        refine zr_iconst C0 (v := 5) dL_law_370 (by decide) ?_
        refine zr_iadd C0 dL_law_371 ?_
        obtain ⟨x29, e30, hf⟩ := zbind hf
        refine zr_iald C0 dL_law_372 e30 ?_
        obtain ⟨_, e31, hf⟩ := zbind hf
        obtain ⟨x34, h32, e33, hf⟩ := zbind2 hf
        refine zr_callV_r C0 cv_X0_183_X6 rfl (zcko e31) (m_X6_appendInput C0.2.2.2.2.2.2.1 e33) (by decide) (by decide) rfl rfl (Nat.le_of_ble_eq_true rfl) dL_law_373 rfl ?_
        refine zr_icmp_eq C0 (tgt := 4006) dL_law_376 (by decide) (fun c35 => ?_) (fun c35 => ?_)
        · have hf := zif_t c35 hf
          exact w_L_law_b4006 C0 ih hf
        · have hf := zif_f c35 hf
          refine zr_iconst C0 (v := 0) dL_law_379 (by decide) ?_
          refine zretW hf ?_
          exact zr_iret C0 (ty := .boolean) rfl (by decide) dL_law_380 rfl
      have hf := zif_f c6 hf
      rcases Decidable.em ((x4 &&& (63 : Int32)) = 1) with c36 | c36
      · have hf := zif_t c36 hf
        refine zr_tableIn C0 (v := 1) (tgt := 381) dL_law_40 c36 (by decide) (by decide) rfl (by decide) ?_
        refine zr_aload_n C0 dL_law_381 rfl 1 rfl ?_
        refine zr_aload_n C0 dL_law_382 rfl 0 rfl ?_
        refine zr_iload C0 dL_law_383 4 rfl ?_
        refine zr_iconst C0 (v := 1) dL_law_385 (by decide) ?_
        refine zr_iadd C0 dL_law_386 ?_
        obtain ⟨x37, e38, hf⟩ := zbind hf
        refine zr_iald C0 dL_law_387 e38 ?_
        obtain ⟨_, e39, hf⟩ := zbind hf
        obtain ⟨x42, h40, e41, hf⟩ := zbind2 hf
        refine zr_callV_r C0 cv_X0_184_X1 rfl (zcko e39) (m_X1_truncateInput C0.2.2.2.2.2.2.1 e41) (by decide) (by decide) rfl rfl (Nat.le_of_ble_eq_true rfl) dL_law_388 rfl ?_
        refine zr_aload_n C0 dL_law_391 rfl 2 rfl ?_
        refine zr_aload_n C0 dL_law_392 rfl 0 rfl ?_
        refine zr_iload C0 dL_law_393 4 rfl ?_
        refine zr_iconst C0 (v := 1) dL_law_395 (by decide) ?_
        refine zr_iadd C0 dL_law_396 ?_
        obtain ⟨x43, e44, hf⟩ := zbind hf
        refine zr_iald C0 dL_law_397 e44 ?_
        obtain ⟨_, e45, hf⟩ := zbind hf
        obtain ⟨x48, h46, e47, hf⟩ := zbind2 hf
        refine zr_callV_r C0 cv_X0_187_X6 rfl (zcko e45) (m_X6_truncateInput C0.2.2.2.2.2.2.1 e47) (by decide) (by decide) rfl rfl (Nat.le_of_ble_eq_true rfl) dL_law_398 rfl ?_
        refine zr_icmp_eq C0 (tgt := 4006) dL_law_401 (by decide) (fun c49 => ?_) (fun c49 => ?_)
        · have hf := zif_t c49 hf
          exact w_L_law_b4006 C0 ih hf
        · have hf := zif_f c49 hf
          refine zr_iconst C0 (v := 0) dL_law_404 (by decide) ?_
          refine zretW hf ?_
          exact zr_iret C0 (ty := .boolean) rfl (by decide) dL_law_405 rfl
      have hf := zif_f c36 hf
      rcases Decidable.em ((x4 &&& (63 : Int32)) = 2) with c50 | c50
      · have hf := zif_t c50 hf
        refine zr_tableIn C0 (v := 2) (tgt := 406) dL_law_40 c50 (by decide) (by decide) rfl (by decide) ?_
        refine zr_aload_n C0 dL_law_406 rfl 1 rfl ?_
        obtain ⟨_, e51, hf⟩ := zbind hf
        obtain ⟨x54, h52, e53, hf⟩ := zbind2 hf
        refine zr_callVX_r C0 cv_X0_188_X1 rfl (zcko e51) (m_X1_load C0.2.2.2.2.2.2.1 e53) (by decide) (by decide) rfl rfl (Nat.le_of_ble_eq_true rfl) dL_law_407 rfl ?_
        refine zr_aload_n C0 dL_law_410 rfl 2 rfl ?_
        obtain ⟨_, e55, hf⟩ := zbind hf
        obtain ⟨x58, h56, e57, hf⟩ := zbind2 hf
        refine zr_callV_r C0 cv_X0_191_X6 rfl (zcko e55) (m_X6_load C0.2.2.2.2.2.2.1 e57) (by decide) (by decide) rfl rfl (Nat.le_of_ble_eq_true rfl) dL_law_411 rfl ?_
        refine zr_icmp_eq C0 (tgt := 4006) dL_law_414 (by decide) (fun c59 => ?_) (fun c59 => ?_)
        · have hf := zif_t c59 hf
          exact w_L_law_b4006 C0 ih hf
        · have hf := zif_f c59 hf
          refine zr_iconst C0 (v := 0) dL_law_417 (by decide) ?_
          refine zretW hf ?_
          exact zr_iret C0 (ty := .boolean) rfl (by decide) dL_law_418 rfl
      have hf := zif_f c50 hf
      rcases Decidable.em ((x4 &&& (63 : Int32)) = 3) with c60 | c60
      · have hf := zif_t c60 hf
        refine zr_tableIn C0 (v := 3) (tgt := 419) dL_law_40 c60 (by decide) (by decide) rfl (by decide) ?_
        refine zr_aload_n C0 dL_law_419 rfl 1 rfl ?_
        obtain ⟨_, e61, hf⟩ := zbind hf
        obtain ⟨x64, h62, e63, hf⟩ := zbind2 hf
        refine zr_callV_r C0 cv_X0_192_X1 rfl (zcko e61) (m_X1_errorCode C0.2.2.2.2.2.2.1 e63) (by decide) (by decide) rfl rfl (Nat.le_of_ble_eq_true rfl) dL_law_420 rfl ?_
        refine zr_aload_n C0 dL_law_423 rfl 2 rfl ?_
        obtain ⟨_, e65, hf⟩ := zbind hf
        obtain ⟨x68, h66, e67, hf⟩ := zbind2 hf
        refine zr_callV_r C0 cv_X0_195_X6 rfl (zcko e65) (m_X6_errorCode C0.2.2.2.2.2.2.1 e67) (by decide) (by decide) rfl rfl (Nat.le_of_ble_eq_true rfl) dL_law_424 rfl ?_
        refine zr_icmp_eq C0 (tgt := 4006) dL_law_427 (by decide) (fun c69 => ?_) (fun c69 => ?_)
        · have hf := zif_t c69 hf
          exact w_L_law_b4006 C0 ih hf
        · have hf := zif_f c69 hf
          refine zr_iconst C0 (v := 0) dL_law_430 (by decide) ?_
          refine zretW hf ?_
          exact zr_iret C0 (ty := .boolean) rfl (by decide) dL_law_431 rfl
      have hf := zif_f c60 hf
      rcases Decidable.em ((x4 &&& (63 : Int32)) = 4) with c70 | c70
      · have hf := zif_t c70 hf
        refine zr_tableIn C0 (v := 4) (tgt := 432) dL_law_40 c70 (by decide) (by decide) rfl (by decide) ?_
        refine zr_aload_n C0 dL_law_432 rfl 1 rfl ?_
        obtain ⟨_, e71, hf⟩ := zbind hf
        obtain ⟨x74, h72, e73, hf⟩ := zbind2 hf
        refine zr_callV_r C0 cv_X0_196_X1 rfl (zcko e71) (m_X1_errorPosition C0.2.2.2.2.2.2.1 e73) (by decide) (by decide) rfl rfl (Nat.le_of_ble_eq_true rfl) dL_law_433 rfl ?_
        refine zr_aload_n C0 dL_law_436 rfl 2 rfl ?_
        obtain ⟨_, e75, hf⟩ := zbind hf
        obtain ⟨x78, h76, e77, hf⟩ := zbind2 hf
        refine zr_callV_r C0 cv_X0_199_X6 rfl (zcko e75) (m_X6_errorPosition C0.2.2.2.2.2.2.1 e77) (by decide) (by decide) rfl rfl (Nat.le_of_ble_eq_true rfl) dL_law_437 rfl ?_
        refine zr_icmp_eq C0 (tgt := 4006) dL_law_440 (by decide) (fun c79 => ?_) (fun c79 => ?_)
        · have hf := zif_t c79 hf
          exact w_L_law_b4006 C0 ih hf
        · have hf := zif_f c79 hf
          refine zr_iconst C0 (v := 0) dL_law_443 (by decide) ?_
          refine zretW hf ?_
          exact zr_iret C0 (ty := .boolean) rfl (by decide) dL_law_444 rfl
      have hf := zif_f c70 hf
      rcases Decidable.em ((x4 &&& (63 : Int32)) = 5) with c80 | c80
      · have hf := zif_t c80 hf
        refine zr_tableIn C0 (v := 5) (tgt := 445) dL_law_40 c80 (by decide) (by decide) rfl (by decide) ?_
        refine zr_aload_n C0 dL_law_445 rfl 1 rfl ?_
        obtain ⟨_, e81, hf⟩ := zbind hf
        obtain ⟨x84, h82, e83, hf⟩ := zbind2 hf
        refine zr_callV_r C0 cv_X0_200_X1 rfl (zcko e81) (m_X1_find C0.2.2.2.2.2.2.1 e83) (by decide) (by decide) rfl rfl (Nat.le_of_ble_eq_true rfl) dL_law_446 rfl ?_
        refine zr_aload_n C0 dL_law_449 rfl 2 rfl ?_
        obtain ⟨_, e85, hf⟩ := zbind hf
        obtain ⟨x88, h86, e87, hf⟩ := zbind2 hf
        refine zr_callV_r C0 cv_X0_203_X6 rfl (zcko e85) (m_X6_find C0.2.2.2.2.2.2.1 e87) (by decide) (by decide) rfl rfl (Nat.le_of_ble_eq_true rfl) dL_law_450 rfl ?_
        refine zr_icmp_eq C0 (tgt := 4006) dL_law_453 (by decide) (fun c89 => ?_) (fun c89 => ?_)
        · have hf := zif_t c89 hf
          exact w_L_law_b4006 C0 ih hf
        · have hf := zif_f c89 hf
          refine zr_iconst C0 (v := 0) dL_law_456 (by decide) ?_
          refine zretW hf ?_
          exact zr_iret C0 (ty := .boolean) rfl (by decide) dL_law_457 rfl
      have hf := zif_f c80 hf
      rcases Decidable.em ((x4 &&& (63 : Int32)) = 6) with c90 | c90
      · have hf := zif_t c90 hf
        refine zr_tableIn C0 (v := 6) (tgt := 458) dL_law_40 c90 (by decide) (by decide) rfl (by decide) ?_
        refine zr_aload_n C0 dL_law_458 rfl 1 rfl ?_
        obtain ⟨_, e91, hf⟩ := zbind hf
        obtain ⟨x94, h92, e93, hf⟩ := zbind2 hf
        refine zr_callVX_r C0 cv_X0_204_X1 rfl (zcko e91) (m_X1_loadJournal C0.2.2.2.2.2.2.1 e93) (by decide) (by decide) rfl rfl (Nat.le_of_ble_eq_true rfl) dL_law_459 rfl ?_
        refine zr_aload_n C0 dL_law_462 rfl 2 rfl ?_
        obtain ⟨_, e95, hf⟩ := zbind hf
        obtain ⟨x98, h96, e97, hf⟩ := zbind2 hf
        refine zr_callV_r C0 cv_X0_207_X6 rfl (zcko e95) (m_X6_loadJournal C0.2.2.2.2.2.2.1 e97) (by decide) (by decide) rfl rfl (Nat.le_of_ble_eq_true rfl) dL_law_463 rfl ?_
        refine zr_icmp_eq C0 (tgt := 4006) dL_law_466 (by decide) (fun c99 => ?_) (fun c99 => ?_)
        · have hf := zif_t c99 hf
          exact w_L_law_b4006 C0 ih hf
        · have hf := zif_f c99 hf
          refine zr_iconst C0 (v := 0) dL_law_469 (by decide) ?_
          refine zretW hf ?_
          exact zr_iret C0 (ty := .boolean) rfl (by decide) dL_law_470 rfl
      have hf := zif_f c90 hf
      rcases Decidable.em ((x4 &&& (63 : Int32)) = 7) with c100 | c100
      · have hf := zif_t c100 hf
        refine zr_tableIn C0 (v := 7) (tgt := 471) dL_law_40 c100 (by decide) (by decide) rfl (by decide) ?_
        refine zr_aload_n C0 dL_law_471 rfl 1 rfl ?_
        refine zr_aload_n C0 dL_law_472 rfl 0 rfl ?_
        refine zr_iload C0 dL_law_473 4 rfl ?_
        refine zr_iconst C0 (v := 1) dL_law_475 (by decide) ?_
        refine zr_iadd C0 dL_law_476 ?_
        obtain ⟨x101, e102, hf⟩ := zbind hf
        refine zr_iald C0 dL_law_477 e102 ?_
        refine zr_aload_n C0 dL_law_478 rfl 3 rfl ?_
        obtain ⟨x105, h103, e104, hf⟩ := zbind2 hf
        refine zr_callSX_r C0 cv_X0_208 (m_X0_runJournal C0.2.2.2.2.2.2.1 e104) (by decide) (by decide) rfl rfl (Nat.le_of_ble_eq_true rfl) dL_law_479 rfl ?_
        refine zr_istore (i := 5) (lv' := [(5, .int x105), (0, .ref p0), (1, .ref p1), (2, .ref p2), (3, .ref p3), (4, .int p4)]) C0 dL_law_482 (by decide) (by first | rfl | simp [zst1, zst2, zcat_rf]) ?_
        refine zr_aload_n C0 dL_law_484 rfl 3 rfl ?_
        refine zr_aload_n C0 dL_law_485 rfl 1 rfl ?_
        refine zr_iload C0 dL_law_486 5 rfl ?_
        refine zr_iconst C0 (v := 1) dL_law_488 (by decide) ?_
        refine zr_iadd C0 dL_law_489 ?_
        obtain ⟨x106, e107, hf⟩ := zbind hf
        refine zr_iald C0 dL_law_490 e107 ?_
        obtain ⟨_, e108, hf⟩ := zbind hf
        obtain ⟨x111, h109, e110, hf⟩ := zbind2 hf
        refine zr_callV_r C0 cv_X0_213_X6 rfl (zcko e108) (m_X6_runJournal C0.2.2.2.2.2.2.1 e110) (by decide) (by decide) rfl rfl (Nat.le_of_ble_eq_true rfl) dL_law_491 rfl ?_
        refine zr_istore (i := 6) (lv' := [(6, .int x111), (5, .int x105), (0, .ref p0), (1, .ref p1), (2, .ref p2), (3, .ref p3), (4, .int p4)]) C0 dL_law_494 (by decide) (by first | rfl | simp [zst1, zst2, zcat_rf]) ?_
        refine zr_aload_n C0 dL_law_496 rfl 4 rfl ?_
        obtain ⟨_, e112, hf⟩ := zbind hf
        obtain ⟨x115, h113, e114, hf⟩ := zbind2 hf
        refine zr_callV_r C0 cv_X0_214_X6 rfl (zcko e112) (m_X6_thrown C0.2.2.2.2.2.2.1 e114) (by decide) (by decide) rfl rfl (Nat.le_of_ble_eq_true rfl) dL_law_497 rfl ?_
        refine zr_iload C0 dL_law_500 1 rfl ?_
        refine zr_icmp_eq C0 (tgt := 507) dL_law_502 (by decide) (fun c116 => ?_) (fun c116 => ?_)
        · have hf := zif_t c116 hf
          refine zr_iload C0 dL_law_507 1 rfl ?_
          refine zr_if_ne C0 (tgt := 524) dL_law_509 (by decide) (fun c117 => ?_) (fun c117 => ?_)
          · have hf := zif_f c117 hf
            refine zr_sub [2, 3, 4, 5, 6] rfl ?_
            exact w_L_law_b524 C0 ih hf
          · have hf := zif_t c117 hf
            refine zr_aload_n C0 dL_law_512 rfl 5 rfl ?_
            refine zr_iconst C0 (v := 0) dL_law_513 (by decide) ?_
            obtain ⟨x118, e119, hf⟩ := zbind hf
            refine zr_lald C0 dL_law_514 e119 ?_
            refine zr_iload C0 dL_law_515 0 rfl ?_
            refine zr_i2l C0 dL_law_517 ?_
            refine zr_lcmp C0 dL_law_518 ?_
            refine zr_if_eq C0 (tgt := 524) dL_law_519 (by decide) (fun c120 => ?_) (fun c120 => ?_)
            · have hf := zif_t (zl_eq.mp c120) hf
              refine zr_sub [2, 3, 4, 5, 6] rfl ?_
              exact w_L_law_b524 C0 ih hf
            · have hf := zif_f (zl_eqn.mp c120) hf
              refine zr_iconst C0 (v := 0) dL_law_522 (by decide) ?_
              refine zretW hf ?_
              exact zr_iret C0 (ty := .boolean) rfl (by decide) dL_law_523 rfl
        · have hf := zif_f c116 hf
          refine zr_iconst C0 (v := 0) dL_law_505 (by decide) ?_
          refine zretW hf ?_
          exact zr_iret C0 (ty := .boolean) rfl (by decide) dL_law_506 rfl
      have hf := zif_f c100 hf
      rcases Decidable.em ((x4 &&& (63 : Int32)) = 8) with c121 | c121
      · have hf := zif_t c121 hf
        refine zr_tableIn C0 (v := 8) (tgt := 527) dL_law_40 c121 (by decide) (by decide) rfl (by decide) ?_
        refine zr_aload_n C0 dL_law_527 rfl 1 rfl ?_
        refine zr_aload_n C0 dL_law_528 rfl 0 rfl ?_
        refine zr_iload C0 dL_law_529 4 rfl ?_
        refine zr_iconst C0 (v := 1) dL_law_531 (by decide) ?_
        refine zr_iadd C0 dL_law_532 ?_
        obtain ⟨x122, e123, hf⟩ := zbind hf
        refine zr_iald C0 dL_law_533 e123 ?_
        obtain ⟨_, e124, hf⟩ := zbind hf
        obtain ⟨x127, h125, e126, hf⟩ := zbind2 hf
        refine zr_callV_r C0 cv_X0_217_X1 rfl (zcko e124) (m_X1_count C0.2.2.2.2.2.2.1 e126) (by decide) (by decide) rfl rfl (Nat.le_of_ble_eq_true rfl) dL_law_534 rfl ?_
        refine zr_aload_n C0 dL_law_537 rfl 2 rfl ?_
        refine zr_aload_n C0 dL_law_538 rfl 0 rfl ?_
        refine zr_iload C0 dL_law_539 4 rfl ?_
        refine zr_iconst C0 (v := 1) dL_law_541 (by decide) ?_
        refine zr_iadd C0 dL_law_542 ?_
        obtain ⟨x128, e129, hf⟩ := zbind hf
        refine zr_iald C0 dL_law_543 e129 ?_
        obtain ⟨_, e130, hf⟩ := zbind hf
        obtain ⟨x133, h131, e132, hf⟩ := zbind2 hf
        refine zr_callV_r C0 cv_X0_220_X6 rfl (zcko e130) (m_X6_count C0.2.2.2.2.2.2.1 e132) (by decide) (by decide) rfl rfl (Nat.le_of_ble_eq_true rfl) dL_law_544 rfl ?_
        refine zr_icmp_eq C0 (tgt := 4006) dL_law_547 (by decide) (fun c134 => ?_) (fun c134 => ?_)
        · have hf := zif_t c134 hf
          exact w_L_law_b4006 C0 ih hf
        · have hf := zif_f c134 hf
          refine zr_iconst C0 (v := 0) dL_law_550 (by decide) ?_
          refine zretW hf ?_
          exact zr_iret C0 (ty := .boolean) rfl (by decide) dL_law_551 rfl
      have hf := zif_f c121 hf
      rcases Decidable.em ((x4 &&& (63 : Int32)) = 9) with c135 | c135
      · have hf := zif_t c135 hf
        refine zr_tableIn C0 (v := 9) (tgt := 552) dL_law_40 c135 (by decide) (by decide) rfl (by decide) ?_
        refine zr_aload_n C0 dL_law_552 rfl 1 rfl ?_
        obtain ⟨_, e136, hf⟩ := zbind hf
        obtain ⟨x139, h137, e138, hf⟩ := zbind2 hf
        refine zr_callV_r C0 cv_X0_221_X1 rfl (zcko e136) (m_X1_month C0.2.2.2.2.2.2.1 e138) (by decide) (by decide) rfl rfl (Nat.le_of_ble_eq_true rfl) dL_law_553 rfl ?_
        refine zr_aload_n C0 dL_law_556 rfl 2 rfl ?_
        obtain ⟨_, e140, hf⟩ := zbind hf
        obtain ⟨x143, h141, e142, hf⟩ := zbind2 hf
        refine zr_callV_r C0 cv_X0_224_X6 rfl (zcko e140) (m_X6_month C0.2.2.2.2.2.2.1 e142) (by decide) (by decide) rfl rfl (Nat.le_of_ble_eq_true rfl) dL_law_557 rfl ?_
        refine zr_icmp_eq C0 (tgt := 4006) dL_law_560 (by decide) (fun c144 => ?_) (fun c144 => ?_)
        · have hf := zif_t c144 hf
          exact w_L_law_b4006 C0 ih hf
        · have hf := zif_f c144 hf
          refine zr_iconst C0 (v := 0) dL_law_563 (by decide) ?_
          refine zretW hf ?_
          exact zr_iret C0 (ty := .boolean) rfl (by decide) dL_law_564 rfl
      have hf := zif_f c135 hf
      rcases Decidable.em ((x4 &&& (63 : Int32)) = 10) with c145 | c145
      · have hf := zif_t c145 hf
        refine zr_tableIn C0 (v := 10) (tgt := 565) dL_law_40 c145 (by decide) (by decide) rfl (by decide) ?_
        refine zr_aload_n C0 dL_law_565 rfl 1 rfl ?_
        refine zr_aload_n C0 dL_law_566 rfl 0 rfl ?_
        refine zr_iload C0 dL_law_567 4 rfl ?_
        refine zr_iconst C0 (v := 1) dL_law_569 (by decide) ?_
        refine zr_iadd C0 dL_law_570 ?_
        obtain ⟨x146, e147, hf⟩ := zbind hf
        refine zr_iald C0 dL_law_571 e147 ?_
        refine zr_aload_n C0 dL_law_572 rfl 0 rfl ?_
        refine zr_iload C0 dL_law_573 4 rfl ?_
        refine zr_iconst C0 (v := 2) dL_law_575 (by decide) ?_
        refine zr_iadd C0 dL_law_576 ?_
        obtain ⟨x148, e149, hf⟩ := zbind hf
        refine zr_iald C0 dL_law_577 e149 ?_
        refine zr_aload_n C0 dL_law_578 rfl 3 rfl ?_
        obtain ⟨x152, h150, e151, hf⟩ := zbind2 hf
        refine zr_callSX_r C0 cv_X0_225 (m_X0_owner C0.2.2.2.2.2.2.1 e151) (by decide) (by decide) rfl rfl (Nat.le_of_ble_eq_true rfl) dL_law_579 rfl ?_
        refine zr_istore (i := 5) (lv' := [(5, .int x152), (0, .ref p0), (1, .ref p1), (2, .ref p2), (3, .ref p3), (4, .int p4)]) C0 dL_law_582 (by decide) (by first | rfl | simp [zst1, zst2, zcat_rf]) ?_
        refine zr_aload_n C0 dL_law_584 rfl 3 rfl ?_
        refine zr_aload_n C0 dL_law_585 rfl 1 rfl ?_
        refine zr_iload C0 dL_law_586 5 rfl ?_
        refine zr_iconst C0 (v := 1) dL_law_588 (by decide) ?_
        refine zr_iadd C0 dL_law_589 ?_
        obtain ⟨x153, e154, hf⟩ := zbind hf
        refine zr_iald C0 dL_law_590 e154 ?_
        refine zr_aload_n C0 dL_law_591 rfl 1 rfl ?_
        refine zr_iload C0 dL_law_592 5 rfl ?_
        refine zr_iconst C0 (v := 2) dL_law_594 (by decide) ?_
        refine zr_iadd C0 dL_law_595 ?_
        obtain ⟨x155, e156, hf⟩ := zbind hf
        refine zr_iald C0 dL_law_596 e156 ?_
        obtain ⟨_, e157, hf⟩ := zbind hf
        obtain ⟨x160, h158, e159, hf⟩ := zbind2 hf
        refine zr_callV_r C0 cv_X0_228_X6 rfl (zcko e157) (m_X6_owner C0.2.2.2.2.2.2.1 e159) (by decide) (by decide) rfl rfl (Nat.le_of_ble_eq_true rfl) dL_law_597 rfl ?_
        refine zr_istore (i := 6) (lv' := [(6, .int x160), (5, .int x152), (0, .ref p0), (1, .ref p1), (2, .ref p2), (3, .ref p3), (4, .int p4)]) C0 dL_law_600 (by decide) (by first | rfl | simp [zst1, zst2, zcat_rf]) ?_
        refine zr_aload_n C0 dL_law_602 rfl 4 rfl ?_
        obtain ⟨_, e161, hf⟩ := zbind hf
        obtain ⟨x164, h162, e163, hf⟩ := zbind2 hf
        refine zr_callV_r C0 cv_X0_214_X6 rfl (zcko e161) (m_X6_thrown C0.2.2.2.2.2.2.1 e163) (by decide) (by decide) rfl rfl (Nat.le_of_ble_eq_true rfl) dL_law_603 rfl ?_
        refine zr_iload C0 dL_law_606 1 rfl ?_
        refine zr_icmp_eq C0 (tgt := 613) dL_law_608 (by decide) (fun c165 => ?_) (fun c165 => ?_)
        · have hf := zif_t c165 hf
          refine zr_iload C0 dL_law_613 1 rfl ?_
          refine zr_if_ne C0 (tgt := 630) dL_law_615 (by decide) (fun c166 => ?_) (fun c166 => ?_)
          · have hf := zif_f c166 hf
            refine zr_sub [2, 3, 4, 5, 6] rfl ?_
            exact w_L_law_b630 C0 ih hf
          · have hf := zif_t c166 hf
            refine zr_aload_n C0 dL_law_618 rfl 5 rfl ?_
            refine zr_iconst C0 (v := 0) dL_law_619 (by decide) ?_
            obtain ⟨x167, e168, hf⟩ := zbind hf
            refine zr_lald C0 dL_law_620 e168 ?_
            refine zr_iload C0 dL_law_621 0 rfl ?_
            refine zr_i2l C0 dL_law_623 ?_
            refine zr_lcmp C0 dL_law_624 ?_
            refine zr_if_eq C0 (tgt := 630) dL_law_625 (by decide) (fun c169 => ?_) (fun c169 => ?_)
            · have hf := zif_t (zl_eq.mp c169) hf
              refine zr_sub [2, 3, 4, 5, 6] rfl ?_
              exact w_L_law_b630 C0 ih hf
            · have hf := zif_f (zl_eqn.mp c169) hf
              refine zr_iconst C0 (v := 0) dL_law_628 (by decide) ?_
              refine zretW hf ?_
              exact zr_iret C0 (ty := .boolean) rfl (by decide) dL_law_629 rfl
        · have hf := zif_f c165 hf
          refine zr_iconst C0 (v := 0) dL_law_611 (by decide) ?_
          refine zretW hf ?_
          exact zr_iret C0 (ty := .boolean) rfl (by decide) dL_law_612 rfl
      have hf := zif_f c145 hf
      rcases Decidable.em ((x4 &&& (63 : Int32)) = 11) with c170 | c170
      · have hf := zif_t c170 hf
        refine zr_tableIn C0 (v := 11) (tgt := 633) dL_law_40 c170 (by decide) (by decide) rfl (by decide) ?_
        refine zr_aload_n C0 dL_law_633 rfl 1 rfl ?_
        refine zr_aload_n C0 dL_law_634 rfl 0 rfl ?_
        refine zr_iload C0 dL_law_635 4 rfl ?_
        refine zr_iconst C0 (v := 1) dL_law_637 (by decide) ?_
        refine zr_iadd C0 dL_law_638 ?_
        obtain ⟨x171, e172, hf⟩ := zbind hf
        refine zr_iald C0 dL_law_639 e172 ?_
        refine zr_aload_n C0 dL_law_640 rfl 3 rfl ?_
        obtain ⟨x175, h173, e174, hf⟩ := zbind2 hf
        refine zr_callSX_r C0 cv_X0_229 (m_X0_area C0.2.2.2.2.2.2.1 e174) (by decide) (by decide) rfl rfl (Nat.le_of_ble_eq_true rfl) dL_law_641 rfl ?_
        refine zr_istore (i := 5) (lv' := [(5, .int x175), (0, .ref p0), (1, .ref p1), (2, .ref p2), (3, .ref p3), (4, .int p4)]) C0 dL_law_644 (by decide) (by first | rfl | simp [zst1, zst2, zcat_rf]) ?_
        refine zr_aload_n C0 dL_law_646 rfl 3 rfl ?_
        refine zr_aload_n C0 dL_law_647 rfl 1 rfl ?_
        refine zr_iload C0 dL_law_648 5 rfl ?_
        refine zr_iconst C0 (v := 1) dL_law_650 (by decide) ?_
        refine zr_iadd C0 dL_law_651 ?_
        obtain ⟨x176, e177, hf⟩ := zbind hf
        refine zr_iald C0 dL_law_652 e177 ?_
        obtain ⟨_, e178, hf⟩ := zbind hf
        obtain ⟨x181, h179, e180, hf⟩ := zbind2 hf
        refine zr_callV_r C0 cv_X0_231_X6 rfl (zcko e178) (m_X6_area C0.2.2.2.2.2.2.1 e180) (by decide) (by decide) rfl rfl (Nat.le_of_ble_eq_true rfl) dL_law_653 rfl ?_
        refine zr_istore (i := 6) (lv' := [(6, .int x181), (5, .int x175), (0, .ref p0), (1, .ref p1), (2, .ref p2), (3, .ref p3), (4, .int p4)]) C0 dL_law_656 (by decide) (by first | rfl | simp [zst1, zst2, zcat_rf]) ?_
        refine zr_aload_n C0 dL_law_658 rfl 4 rfl ?_
        obtain ⟨_, e182, hf⟩ := zbind hf
        obtain ⟨x185, h183, e184, hf⟩ := zbind2 hf
        refine zr_callV_r C0 cv_X0_214_X6 rfl (zcko e182) (m_X6_thrown C0.2.2.2.2.2.2.1 e184) (by decide) (by decide) rfl rfl (Nat.le_of_ble_eq_true rfl) dL_law_659 rfl ?_
        refine zr_iload C0 dL_law_662 1 rfl ?_
        refine zr_icmp_eq C0 (tgt := 669) dL_law_664 (by decide) (fun c186 => ?_) (fun c186 => ?_)
        · have hf := zif_t c186 hf
          refine zr_iload C0 dL_law_669 1 rfl ?_
          refine zr_if_ne C0 (tgt := 686) dL_law_671 (by decide) (fun c187 => ?_) (fun c187 => ?_)
          · have hf := zif_f c187 hf
            refine zr_sub [2, 3, 4, 5, 6] rfl ?_
            exact w_L_law_b686 C0 ih hf
          · have hf := zif_t c187 hf
            refine zr_aload_n C0 dL_law_674 rfl 5 rfl ?_
            refine zr_iconst C0 (v := 0) dL_law_675 (by decide) ?_
            obtain ⟨x188, e189, hf⟩ := zbind hf
            refine zr_lald C0 dL_law_676 e189 ?_
            refine zr_iload C0 dL_law_677 0 rfl ?_
            refine zr_i2l C0 dL_law_679 ?_
            refine zr_lcmp C0 dL_law_680 ?_
            refine zr_if_eq C0 (tgt := 686) dL_law_681 (by decide) (fun c190 => ?_) (fun c190 => ?_)
            · have hf := zif_t (zl_eq.mp c190) hf
              refine zr_sub [2, 3, 4, 5, 6] rfl ?_
              exact w_L_law_b686 C0 ih hf
            · have hf := zif_f (zl_eqn.mp c190) hf
              refine zr_iconst C0 (v := 0) dL_law_684 (by decide) ?_
              refine zretW hf ?_
              exact zr_iret C0 (ty := .boolean) rfl (by decide) dL_law_685 rfl
        · have hf := zif_f c186 hf
          refine zr_iconst C0 (v := 0) dL_law_667 (by decide) ?_
          refine zretW hf ?_
          exact zr_iret C0 (ty := .boolean) rfl (by decide) dL_law_668 rfl
      have hf := zif_f c170 hf
      rcases Decidable.em ((x4 &&& (63 : Int32)) = 12) with c191 | c191
      · have hf := zif_t c191 hf
        refine zr_tableIn C0 (v := 12) (tgt := 689) dL_law_40 c191 (by decide) (by decide) rfl (by decide) ?_
        refine zr_aload_n C0 dL_law_689 rfl 1 rfl ?_
        refine zr_aload_n C0 dL_law_690 rfl 0 rfl ?_
        refine zr_iload C0 dL_law_691 4 rfl ?_
        refine zr_iconst C0 (v := 1) dL_law_693 (by decide) ?_
        refine zr_iadd C0 dL_law_694 ?_
        obtain ⟨x192, e193, hf⟩ := zbind hf
        refine zr_iald C0 dL_law_695 e193 ?_
        refine zr_aload_n C0 dL_law_696 rfl 3 rfl ?_
        obtain ⟨x196, h194, e195, hf⟩ := zbind2 hf
        refine zr_callSX_r C0 cv_X0_232 (m_X0_perimeter C0.2.2.2.2.2.2.1 e195) (by decide) (by decide) rfl rfl (Nat.le_of_ble_eq_true rfl) dL_law_697 rfl ?_
        refine zr_istore (i := 5) (lv' := [(5, .int x196), (0, .ref p0), (1, .ref p1), (2, .ref p2), (3, .ref p3), (4, .int p4)]) C0 dL_law_700 (by decide) (by first | rfl | simp [zst1, zst2, zcat_rf]) ?_
        refine zr_aload_n C0 dL_law_702 rfl 3 rfl ?_
        refine zr_aload_n C0 dL_law_703 rfl 1 rfl ?_
        refine zr_iload C0 dL_law_704 5 rfl ?_
        refine zr_iconst C0 (v := 1) dL_law_706 (by decide) ?_
        refine zr_iadd C0 dL_law_707 ?_
        obtain ⟨x197, e198, hf⟩ := zbind hf
        refine zr_iald C0 dL_law_708 e198 ?_
        obtain ⟨_, e199, hf⟩ := zbind hf
        obtain ⟨x202, h200, e201, hf⟩ := zbind2 hf
        refine zr_callV_r C0 cv_X0_234_X6 rfl (zcko e199) (m_X6_perimeter C0.2.2.2.2.2.2.1 e201) (by decide) (by decide) rfl rfl (Nat.le_of_ble_eq_true rfl) dL_law_709 rfl ?_
        refine zr_istore (i := 6) (lv' := [(6, .int x202), (5, .int x196), (0, .ref p0), (1, .ref p1), (2, .ref p2), (3, .ref p3), (4, .int p4)]) C0 dL_law_712 (by decide) (by first | rfl | simp [zst1, zst2, zcat_rf]) ?_
        refine zr_aload_n C0 dL_law_714 rfl 4 rfl ?_
        obtain ⟨_, e203, hf⟩ := zbind hf
        obtain ⟨x206, h204, e205, hf⟩ := zbind2 hf
        refine zr_callV_r C0 cv_X0_214_X6 rfl (zcko e203) (m_X6_thrown C0.2.2.2.2.2.2.1 e205) (by decide) (by decide) rfl rfl (Nat.le_of_ble_eq_true rfl) dL_law_715 rfl ?_
        refine zr_iload C0 dL_law_718 1 rfl ?_
        refine zr_icmp_eq C0 (tgt := 725) dL_law_720 (by decide) (fun c207 => ?_) (fun c207 => ?_)
        · have hf := zif_t c207 hf
          refine zr_iload C0 dL_law_725 1 rfl ?_
          refine zr_if_ne C0 (tgt := 742) dL_law_727 (by decide) (fun c208 => ?_) (fun c208 => ?_)
          · have hf := zif_f c208 hf
            refine zr_sub [2, 3, 4, 5, 6] rfl ?_
            exact w_L_law_b742 C0 ih hf
          · have hf := zif_t c208 hf
            refine zr_aload_n C0 dL_law_730 rfl 5 rfl ?_
            refine zr_iconst C0 (v := 0) dL_law_731 (by decide) ?_
            obtain ⟨x209, e210, hf⟩ := zbind hf
            refine zr_lald C0 dL_law_732 e210 ?_
            refine zr_iload C0 dL_law_733 0 rfl ?_
            refine zr_i2l C0 dL_law_735 ?_
            refine zr_lcmp C0 dL_law_736 ?_
            refine zr_if_eq C0 (tgt := 742) dL_law_737 (by decide) (fun c211 => ?_) (fun c211 => ?_)
            · have hf := zif_t (zl_eq.mp c211) hf
              refine zr_sub [2, 3, 4, 5, 6] rfl ?_
              exact w_L_law_b742 C0 ih hf
            · have hf := zif_f (zl_eqn.mp c211) hf
              refine zr_iconst C0 (v := 0) dL_law_740 (by decide) ?_
              refine zretW hf ?_
              exact zr_iret C0 (ty := .boolean) rfl (by decide) dL_law_741 rfl
        · have hf := zif_f c207 hf
          refine zr_iconst C0 (v := 0) dL_law_723 (by decide) ?_
          refine zretW hf ?_
          exact zr_iret C0 (ty := .boolean) rfl (by decide) dL_law_724 rfl
      have hf := zif_f c191 hf
      rcases Decidable.em ((x4 &&& (63 : Int32)) = 13) with c212 | c212
      · have hf := zif_t c212 hf
        refine zr_tableIn C0 (v := 13) (tgt := 745) dL_law_40 c212 (by decide) (by decide) rfl (by decide) ?_
        refine zr_aload_n C0 dL_law_745 rfl 1 rfl ?_
        refine zr_aload_n C0 dL_law_746 rfl 0 rfl ?_
        refine zr_iload C0 dL_law_747 4 rfl ?_
        refine zr_iconst C0 (v := 1) dL_law_749 (by decide) ?_
        refine zr_iadd C0 dL_law_750 ?_
        obtain ⟨x213, e214, hf⟩ := zbind hf
        refine zr_iald C0 dL_law_751 e214 ?_
        refine zr_aload_n C0 dL_law_752 rfl 0 rfl ?_
        refine zr_iload C0 dL_law_753 4 rfl ?_
        refine zr_iconst C0 (v := 2) dL_law_755 (by decide) ?_
        refine zr_iadd C0 dL_law_756 ?_
        obtain ⟨x215, e216, hf⟩ := zbind hf
        refine zr_iald C0 dL_law_757 e216 ?_
        refine zr_aload_n C0 dL_law_758 rfl 3 rfl ?_
        obtain ⟨x219, h217, e218, hf⟩ := zbind2 hf
        refine zr_callSX_r C0 cv_X0_235 (m_X0_border C0.2.2.2.2.2.2.1 e218) (by decide) (by decide) rfl rfl (Nat.le_of_ble_eq_true rfl) dL_law_759 rfl ?_
        refine zr_istore (i := 5) (lv' := [(5, .int x219), (0, .ref p0), (1, .ref p1), (2, .ref p2), (3, .ref p3), (4, .int p4)]) C0 dL_law_762 (by decide) (by first | rfl | simp [zst1, zst2, zcat_rf]) ?_
        refine zr_aload_n C0 dL_law_764 rfl 3 rfl ?_
        refine zr_aload_n C0 dL_law_765 rfl 1 rfl ?_
        refine zr_iload C0 dL_law_766 5 rfl ?_
        refine zr_iconst C0 (v := 1) dL_law_768 (by decide) ?_
        refine zr_iadd C0 dL_law_769 ?_
        obtain ⟨x220, e221, hf⟩ := zbind hf
        refine zr_iald C0 dL_law_770 e221 ?_
        refine zr_aload_n C0 dL_law_771 rfl 1 rfl ?_
        refine zr_iload C0 dL_law_772 5 rfl ?_
        refine zr_iconst C0 (v := 2) dL_law_774 (by decide) ?_
        refine zr_iadd C0 dL_law_775 ?_
        obtain ⟨x222, e223, hf⟩ := zbind hf
        refine zr_iald C0 dL_law_776 e223 ?_
        obtain ⟨_, e224, hf⟩ := zbind hf
        obtain ⟨x227, h225, e226, hf⟩ := zbind2 hf
        refine zr_callV_r C0 cv_X0_237_X6 rfl (zcko e224) (m_X6_border C0.2.2.2.2.2.2.1 e226) (by decide) (by decide) rfl rfl (Nat.le_of_ble_eq_true rfl) dL_law_777 rfl ?_
        refine zr_istore (i := 6) (lv' := [(6, .int x227), (5, .int x219), (0, .ref p0), (1, .ref p1), (2, .ref p2), (3, .ref p3), (4, .int p4)]) C0 dL_law_780 (by decide) (by first | rfl | simp [zst1, zst2, zcat_rf]) ?_
        refine zr_aload_n C0 dL_law_782 rfl 4 rfl ?_
        obtain ⟨_, e228, hf⟩ := zbind hf
        obtain ⟨x231, h229, e230, hf⟩ := zbind2 hf
        refine zr_callV_r C0 cv_X0_214_X6 rfl (zcko e228) (m_X6_thrown C0.2.2.2.2.2.2.1 e230) (by decide) (by decide) rfl rfl (Nat.le_of_ble_eq_true rfl) dL_law_783 rfl ?_
        refine zr_iload C0 dL_law_786 1 rfl ?_
        refine zr_icmp_eq C0 (tgt := 793) dL_law_788 (by decide) (fun c232 => ?_) (fun c232 => ?_)
        · have hf := zif_t c232 hf
          refine zr_iload C0 dL_law_793 1 rfl ?_
          refine zr_if_ne C0 (tgt := 810) dL_law_795 (by decide) (fun c233 => ?_) (fun c233 => ?_)
          · have hf := zif_f c233 hf
            refine zr_sub [2, 3, 4, 5, 6] rfl ?_
            exact w_L_law_b810 C0 ih hf
          · have hf := zif_t c233 hf
            refine zr_aload_n C0 dL_law_798 rfl 5 rfl ?_
            refine zr_iconst C0 (v := 0) dL_law_799 (by decide) ?_
            obtain ⟨x234, e235, hf⟩ := zbind hf
            refine zr_lald C0 dL_law_800 e235 ?_
            refine zr_iload C0 dL_law_801 0 rfl ?_
            refine zr_i2l C0 dL_law_803 ?_
            refine zr_lcmp C0 dL_law_804 ?_
            refine zr_if_eq C0 (tgt := 810) dL_law_805 (by decide) (fun c236 => ?_) (fun c236 => ?_)
            · have hf := zif_t (zl_eq.mp c236) hf
              refine zr_sub [2, 3, 4, 5, 6] rfl ?_
              exact w_L_law_b810 C0 ih hf
            · have hf := zif_f (zl_eqn.mp c236) hf
              refine zr_iconst C0 (v := 0) dL_law_808 (by decide) ?_
              refine zretW hf ?_
              exact zr_iret C0 (ty := .boolean) rfl (by decide) dL_law_809 rfl
        · have hf := zif_f c232 hf
          refine zr_iconst C0 (v := 0) dL_law_791 (by decide) ?_
          refine zretW hf ?_
          exact zr_iret C0 (ty := .boolean) rfl (by decide) dL_law_792 rfl
      have hf := zif_f c212 hf
      rcases Decidable.em ((x4 &&& (63 : Int32)) = 14) with c237 | c237
      · have hf := zif_t c237 hf
        refine zr_tableIn C0 (v := 14) (tgt := 813) dL_law_40 c237 (by decide) (by decide) rfl (by decide) ?_
        refine zr_aload_n C0 dL_law_813 rfl 1 rfl ?_
        refine zr_aload_n C0 dL_law_814 rfl 0 rfl ?_
        refine zr_iload C0 dL_law_815 4 rfl ?_
        refine zr_iconst C0 (v := 1) dL_law_817 (by decide) ?_
        refine zr_iadd C0 dL_law_818 ?_
        obtain ⟨x238, e239, hf⟩ := zbind hf
        refine zr_iald C0 dL_law_819 e239 ?_
        refine zr_aload_n C0 dL_law_820 rfl 3 rfl ?_
        obtain ⟨x242, h240, e241, hf⟩ := zbind2 hf
        refine zr_callSX_r C0 cv_X0_238 (m_X0_isConnected C0.2.2.2.2.2.2.1 e241) (by decide) (by decide) rfl rfl (Nat.le_of_ble_eq_true rfl) dL_law_821 rfl ?_
        refine zr_istore (i := 5) (lv' := [(5, .int x242), (0, .ref p0), (1, .ref p1), (2, .ref p2), (3, .ref p3), (4, .int p4)]) C0 dL_law_824 (by decide) (by first | rfl | simp [zst1, zst2, zcat_rf]) ?_
        refine zr_aload_n C0 dL_law_826 rfl 3 rfl ?_
        refine zr_aload_n C0 dL_law_827 rfl 1 rfl ?_
        refine zr_iload C0 dL_law_828 5 rfl ?_
        refine zr_iconst C0 (v := 1) dL_law_830 (by decide) ?_
        refine zr_iadd C0 dL_law_831 ?_
        obtain ⟨x243, e244, hf⟩ := zbind hf
        refine zr_iald C0 dL_law_832 e244 ?_
        obtain ⟨_, e245, hf⟩ := zbind hf
        obtain ⟨x248, h246, e247, hf⟩ := zbind2 hf
        refine zr_callV_r C0 cv_X0_240_X6 rfl (zcko e245) (m_X6_isConnected C0.2.2.2.2.2.2.1 e247) (by decide) (by decide) rfl rfl (Nat.le_of_ble_eq_true rfl) dL_law_833 rfl ?_
        refine zr_istore (i := 6) (lv' := [(6, .int x248), (5, .int x242), (0, .ref p0), (1, .ref p1), (2, .ref p2), (3, .ref p3), (4, .int p4)]) C0 dL_law_836 (by decide) (by first | rfl | simp [zst1, zst2, zcat_rf]) ?_
        refine zr_aload_n C0 dL_law_838 rfl 4 rfl ?_
        obtain ⟨_, e249, hf⟩ := zbind hf
        obtain ⟨x252, h250, e251, hf⟩ := zbind2 hf
        refine zr_callV_r C0 cv_X0_214_X6 rfl (zcko e249) (m_X6_thrown C0.2.2.2.2.2.2.1 e251) (by decide) (by decide) rfl rfl (Nat.le_of_ble_eq_true rfl) dL_law_839 rfl ?_
        refine zr_iload C0 dL_law_842 1 rfl ?_
        refine zr_icmp_eq C0 (tgt := 849) dL_law_844 (by decide) (fun c253 => ?_) (fun c253 => ?_)
        · have hf := zif_t c253 hf
          refine zr_iload C0 dL_law_849 1 rfl ?_
          refine zr_if_ne C0 (tgt := 873) dL_law_851 (by decide) (fun c254 => ?_) (fun c254 => ?_)
          · have hf := zif_f c254 hf
            refine zr_sub [2, 3, 4, 5, 6] rfl ?_
            exact w_L_law_b873 C0 ih hf
          · have hf := zif_t c254 hf
            refine zr_aload_n C0 dL_law_854 rfl 5 rfl ?_
            refine zr_iconst C0 (v := 0) dL_law_855 (by decide) ?_
            obtain ⟨x255, e256, hf⟩ := zbind hf
            refine zr_lald C0 dL_law_856 e256 ?_
            refine zr_iload C0 dL_law_857 0 rfl ?_
            refine zr_if_eq C0 (tgt := 866) dL_law_859 (by decide) (fun c257 => ?_) (fun c257 => ?_)
            · have hf := zif_t c257 hf
              refine zr_lconst C0 (v := 0) dL_law_866 (by decide) ?_
              refine zr_sub [2, 3, 4, 5, 6] rfl ?_
              exact w_L_law_b867 C0 ih hf
            · have hf := zif_f c257 hf
              refine zr_lconst C0 (v := 1) dL_law_862 (by decide) ?_
              refine zr_goto C0 (tgt := 867) dL_law_863 (by decide) ?_
              refine zr_sub [2, 3, 4, 5, 6] rfl ?_
              exact w_L_law_b867 C0 ih hf
        · have hf := zif_f c253 hf
          refine zr_iconst C0 (v := 0) dL_law_847 (by decide) ?_
          refine zretW hf ?_
          exact zr_iret C0 (ty := .boolean) rfl (by decide) dL_law_848 rfl
      have hf := zif_f c237 hf
      rcases Decidable.em ((x4 &&& (63 : Int32)) = 15) with c258 | c258
      · have hf := zif_t c258 hf
        refine zr_tableIn C0 (v := 15) (tgt := 876) dL_law_40 c258 (by decide) (by decide) rfl (by decide) ?_
        refine zr_aload_n C0 dL_law_876 rfl 1 rfl ?_
        refine zr_aload_n C0 dL_law_877 rfl 0 rfl ?_
        refine zr_iload C0 dL_law_878 4 rfl ?_
        refine zr_iconst C0 (v := 1) dL_law_880 (by decide) ?_
        refine zr_iadd C0 dL_law_881 ?_
        obtain ⟨x259, e260, hf⟩ := zbind hf
        refine zr_iald C0 dL_law_882 e260 ?_
        refine zr_aload_n C0 dL_law_883 rfl 0 rfl ?_
        refine zr_iload C0 dL_law_884 4 rfl ?_
        refine zr_iconst C0 (v := 2) dL_law_886 (by decide) ?_
        refine zr_iadd C0 dL_law_887 ?_
        obtain ⟨x261, e262, hf⟩ := zbind hf
        refine zr_iald C0 dL_law_888 e262 ?_
        refine zr_aload_n C0 dL_law_889 rfl 0 rfl ?_
        refine zr_iload C0 dL_law_890 4 rfl ?_
        refine zr_iconst C0 (v := 3) dL_law_892 (by decide) ?_
        refine zr_iadd C0 dL_law_893 ?_
        obtain ⟨x263, e264, hf⟩ := zbind hf
        refine zr_iald C0 dL_law_894 e264 ?_
        refine zr_aload_n C0 dL_law_895 rfl 3 rfl ?_
        obtain ⟨x267, h265, e266, hf⟩ := zbind2 hf
        refine zr_callSX_r C0 cv_X0_241 (m_X0_distance C0.2.2.2.2.2.2.1 e266) (by decide) (by decide) rfl rfl (Nat.le_of_ble_eq_true rfl) dL_law_896 rfl ?_
        refine zr_istore (i := 5) (lv' := [(5, .int x267), (0, .ref p0), (1, .ref p1), (2, .ref p2), (3, .ref p3), (4, .int p4)]) C0 dL_law_899 (by decide) (by first | rfl | simp [zst1, zst2, zcat_rf]) ?_
        refine zr_aload_n C0 dL_law_901 rfl 3 rfl ?_
        refine zr_aload_n C0 dL_law_902 rfl 1 rfl ?_
        refine zr_iload C0 dL_law_903 5 rfl ?_
        refine zr_iconst C0 (v := 1) dL_law_905 (by decide) ?_
        refine zr_iadd C0 dL_law_906 ?_
        obtain ⟨x268, e269, hf⟩ := zbind hf
        refine zr_iald C0 dL_law_907 e269 ?_
        refine zr_aload_n C0 dL_law_908 rfl 1 rfl ?_
        refine zr_iload C0 dL_law_909 5 rfl ?_
        refine zr_iconst C0 (v := 2) dL_law_911 (by decide) ?_
        refine zr_iadd C0 dL_law_912 ?_
        obtain ⟨x270, e271, hf⟩ := zbind hf
        refine zr_iald C0 dL_law_913 e271 ?_
        refine zr_aload_n C0 dL_law_914 rfl 1 rfl ?_
        refine zr_iload C0 dL_law_915 5 rfl ?_
        refine zr_iconst C0 (v := 3) dL_law_917 (by decide) ?_
        refine zr_iadd C0 dL_law_918 ?_
        obtain ⟨x272, e273, hf⟩ := zbind hf
        refine zr_iald C0 dL_law_919 e273 ?_
        obtain ⟨_, e274, hf⟩ := zbind hf
        obtain ⟨x277, h275, e276, hf⟩ := zbind2 hf
        refine zr_callV_r C0 cv_X0_244_X6 rfl (zcko e274) (m_X6_distance C0.2.2.2.2.2.2.1 e276) (by decide) (by decide) rfl rfl (Nat.le_of_ble_eq_true rfl) dL_law_920 rfl ?_
        refine zr_istore (i := 6) (lv' := [(6, .int x277), (5, .int x267), (0, .ref p0), (1, .ref p1), (2, .ref p2), (3, .ref p3), (4, .int p4)]) C0 dL_law_923 (by decide) (by first | rfl | simp [zst1, zst2, zcat_rf]) ?_
        refine zr_aload_n C0 dL_law_925 rfl 4 rfl ?_
        obtain ⟨_, e278, hf⟩ := zbind hf
        obtain ⟨x281, h279, e280, hf⟩ := zbind2 hf
        refine zr_callV_r C0 cv_X0_214_X6 rfl (zcko e278) (m_X6_thrown C0.2.2.2.2.2.2.1 e280) (by decide) (by decide) rfl rfl (Nat.le_of_ble_eq_true rfl) dL_law_926 rfl ?_
        refine zr_iload C0 dL_law_929 1 rfl ?_
        refine zr_icmp_eq C0 (tgt := 936) dL_law_931 (by decide) (fun c282 => ?_) (fun c282 => ?_)
        · have hf := zif_t c282 hf
          refine zr_iload C0 dL_law_936 1 rfl ?_
          refine zr_if_ne C0 (tgt := 953) dL_law_938 (by decide) (fun c283 => ?_) (fun c283 => ?_)
          · have hf := zif_f c283 hf
            refine zr_sub [2, 3, 4, 5, 6] rfl ?_
            exact w_L_law_b953 C0 ih hf
          · have hf := zif_t c283 hf
            refine zr_aload_n C0 dL_law_941 rfl 5 rfl ?_
            refine zr_iconst C0 (v := 0) dL_law_942 (by decide) ?_
            obtain ⟨x284, e285, hf⟩ := zbind hf
            refine zr_lald C0 dL_law_943 e285 ?_
            refine zr_iload C0 dL_law_944 0 rfl ?_
            refine zr_i2l C0 dL_law_946 ?_
            refine zr_lcmp C0 dL_law_947 ?_
            refine zr_if_eq C0 (tgt := 953) dL_law_948 (by decide) (fun c286 => ?_) (fun c286 => ?_)
            · have hf := zif_t (zl_eq.mp c286) hf
              refine zr_sub [2, 3, 4, 5, 6] rfl ?_
              exact w_L_law_b953 C0 ih hf
            · have hf := zif_f (zl_eqn.mp c286) hf
              refine zr_iconst C0 (v := 0) dL_law_951 (by decide) ?_
              refine zretW hf ?_
              exact zr_iret C0 (ty := .boolean) rfl (by decide) dL_law_952 rfl
        · have hf := zif_f c282 hf
          refine zr_iconst C0 (v := 0) dL_law_934 (by decide) ?_
          refine zretW hf ?_
          exact zr_iret C0 (ty := .boolean) rfl (by decide) dL_law_935 rfl
      have hf := zif_f c258 hf
      rcases Decidable.em ((x4 &&& (63 : Int32)) = 16) with c287 | c287
      · have hf := zif_t c287 hf
        refine zr_tableIn C0 (v := 16) (tgt := 956) dL_law_40 c287 (by decide) (by decide) rfl (by decide) ?_
        refine zr_aload_n C0 dL_law_956 rfl 1 rfl ?_
        refine zr_aload_n C0 dL_law_957 rfl 0 rfl ?_
        refine zr_iload C0 dL_law_958 4 rfl ?_
        refine zr_iconst C0 (v := 1) dL_law_960 (by decide) ?_
        refine zr_iadd C0 dL_law_961 ?_
        obtain ⟨x288, e289, hf⟩ := zbind hf
        refine zr_iald C0 dL_law_962 e289 ?_
        refine zr_aload_n C0 dL_law_963 rfl 0 rfl ?_
        refine zr_iload C0 dL_law_964 4 rfl ?_
        refine zr_iconst C0 (v := 2) dL_law_966 (by decide) ?_
        refine zr_iadd C0 dL_law_967 ?_
        obtain ⟨x290, e291, hf⟩ := zbind hf
        refine zr_iald C0 dL_law_968 e291 ?_
        refine zr_aload_n C0 dL_law_969 rfl 0 rfl ?_
        refine zr_iload C0 dL_law_970 4 rfl ?_
        refine zr_iconst C0 (v := 3) dL_law_972 (by decide) ?_
        refine zr_iadd C0 dL_law_973 ?_
        obtain ⟨x292, e293, hf⟩ := zbind hf
        refine zr_iald C0 dL_law_974 e293 ?_
        refine zr_aload_n C0 dL_law_975 rfl 0 rfl ?_
        refine zr_iload C0 dL_law_976 4 rfl ?_
        refine zr_iconst C0 (v := 4) dL_law_978 (by decide) ?_
        refine zr_iadd C0 dL_law_979 ?_
        obtain ⟨x294, e295, hf⟩ := zbind hf
        refine zr_iald C0 dL_law_980 e295 ?_
        refine zr_aload_n C0 dL_law_981 rfl 0 rfl ?_
        refine zr_iload C0 dL_law_982 4 rfl ?_
        refine zr_iconst C0 (v := 5) dL_law_984 (by decide) ?_
        refine zr_iadd C0 dL_law_985 ?_
        obtain ⟨x296, e297, hf⟩ := zbind hf
        refine zr_iald C0 dL_law_986 e297 ?_
        refine zr_aload_n C0 dL_law_987 rfl 0 rfl ?_
        refine zr_iload C0 dL_law_988 4 rfl ?_
        refine zr_bipush C0 (v := 6) dL_law_990 (by decide) ?_
        refine zr_iadd C0 dL_law_992 ?_
        obtain ⟨x298, e299, hf⟩ := zbind hf
        refine zr_iald C0 dL_law_993 e299 ?_
        refine zr_aload_n C0 dL_law_994 rfl 3 rfl ?_
        obtain ⟨x302, h300, e301, hf⟩ := zbind2 hf
        refine zr_callSX_r C0 cv_X0_245 (m_X0_cede C0.2.2.2.2.2.2.1 e301) (by decide) (by decide) rfl rfl (Nat.le_of_ble_eq_true rfl) dL_law_995 rfl ?_
        refine zr_istore (i := 5) (lv' := [(5, .int x302), (0, .ref p0), (1, .ref p1), (2, .ref p2), (3, .ref p3), (4, .int p4)]) C0 dL_law_998 (by decide) (by first | rfl | simp [zst1, zst2, zcat_rf]) ?_
        refine zr_aload_n C0 dL_law_1000 rfl 3 rfl ?_
        refine zr_aload_n C0 dL_law_1001 rfl 1 rfl ?_
        refine zr_iload C0 dL_law_1002 5 rfl ?_
        refine zr_iconst C0 (v := 1) dL_law_1004 (by decide) ?_
        refine zr_iadd C0 dL_law_1005 ?_
        obtain ⟨x303, e304, hf⟩ := zbind hf
        refine zr_iald C0 dL_law_1006 e304 ?_
        refine zr_aload_n C0 dL_law_1007 rfl 1 rfl ?_
        refine zr_iload C0 dL_law_1008 5 rfl ?_
        refine zr_iconst C0 (v := 2) dL_law_1010 (by decide) ?_
        refine zr_iadd C0 dL_law_1011 ?_
        obtain ⟨x305, e306, hf⟩ := zbind hf
        refine zr_iald C0 dL_law_1012 e306 ?_
        refine zr_aload_n C0 dL_law_1013 rfl 1 rfl ?_
        refine zr_iload C0 dL_law_1014 5 rfl ?_
        refine zr_iconst C0 (v := 3) dL_law_1016 (by decide) ?_
        refine zr_iadd C0 dL_law_1017 ?_
        obtain ⟨x307, e308, hf⟩ := zbind hf
        refine zr_iald C0 dL_law_1018 e308 ?_
        refine zr_aload_n C0 dL_law_1019 rfl 1 rfl ?_
        refine zr_iload C0 dL_law_1020 5 rfl ?_
        refine zr_iconst C0 (v := 4) dL_law_1022 (by decide) ?_
        refine zr_iadd C0 dL_law_1023 ?_
        obtain ⟨x309, e310, hf⟩ := zbind hf
        refine zr_iald C0 dL_law_1024 e310 ?_
        refine zr_aload_n C0 dL_law_1025 rfl 1 rfl ?_
        refine zr_iload C0 dL_law_1026 5 rfl ?_
        refine zr_iconst C0 (v := 5) dL_law_1028 (by decide) ?_
        refine zr_iadd C0 dL_law_1029 ?_
        obtain ⟨x311, e312, hf⟩ := zbind hf
        refine zr_iald C0 dL_law_1030 e312 ?_
        refine zr_aload_n C0 dL_law_1031 rfl 1 rfl ?_
        refine zr_iload C0 dL_law_1032 5 rfl ?_
        refine zr_bipush C0 (v := 6) dL_law_1034 (by decide) ?_
        refine zr_iadd C0 dL_law_1036 ?_
        obtain ⟨x313, e314, hf⟩ := zbind hf
        refine zr_iald C0 dL_law_1037 e314 ?_
        obtain ⟨_, e315, hf⟩ := zbind hf
        obtain ⟨x318, h316, e317, hf⟩ := zbind2 hf
        refine zr_callV_r C0 cv_X0_248_X6 rfl (zcko e315) (m_X6_cede C0.2.2.2.2.2.2.1 e317) (by decide) (by decide) rfl rfl (Nat.le_of_ble_eq_true rfl) dL_law_1038 rfl ?_
        refine zr_istore (i := 6) (lv' := [(6, .int x318), (5, .int x302), (0, .ref p0), (1, .ref p1), (2, .ref p2), (3, .ref p3), (4, .int p4)]) C0 dL_law_1041 (by decide) (by first | rfl | simp [zst1, zst2, zcat_rf]) ?_
        refine zr_aload_n C0 dL_law_1043 rfl 4 rfl ?_
        obtain ⟨_, e319, hf⟩ := zbind hf
        obtain ⟨x322, h320, e321, hf⟩ := zbind2 hf
        refine zr_callV_r C0 cv_X0_214_X6 rfl (zcko e319) (m_X6_thrown C0.2.2.2.2.2.2.1 e321) (by decide) (by decide) rfl rfl (Nat.le_of_ble_eq_true rfl) dL_law_1044 rfl ?_
        refine zr_iload C0 dL_law_1047 1 rfl ?_
        refine zr_icmp_eq C0 (tgt := 1054) dL_law_1049 (by decide) (fun c323 => ?_) (fun c323 => ?_)
        · have hf := zif_t c323 hf
          refine zr_iload C0 dL_law_1054 1 rfl ?_
          refine zr_if_ne C0 (tgt := 1071) dL_law_1056 (by decide) (fun c324 => ?_) (fun c324 => ?_)
          · have hf := zif_f c324 hf
            refine zr_sub [2, 3, 4, 5, 6] rfl ?_
            exact w_L_law_b1071 C0 ih hf
          · have hf := zif_t c324 hf
            refine zr_aload_n C0 dL_law_1059 rfl 5 rfl ?_
            refine zr_iconst C0 (v := 0) dL_law_1060 (by decide) ?_
            obtain ⟨x325, e326, hf⟩ := zbind hf
            refine zr_lald C0 dL_law_1061 e326 ?_
            refine zr_iload C0 dL_law_1062 0 rfl ?_
            refine zr_i2l C0 dL_law_1064 ?_
            refine zr_lcmp C0 dL_law_1065 ?_
            refine zr_if_eq C0 (tgt := 1071) dL_law_1066 (by decide) (fun c327 => ?_) (fun c327 => ?_)
            · have hf := zif_t (zl_eq.mp c327) hf
              refine zr_sub [2, 3, 4, 5, 6] rfl ?_
              exact w_L_law_b1071 C0 ih hf
            · have hf := zif_f (zl_eqn.mp c327) hf
              refine zr_iconst C0 (v := 0) dL_law_1069 (by decide) ?_
              refine zretW hf ?_
              exact zr_iret C0 (ty := .boolean) rfl (by decide) dL_law_1070 rfl
        · have hf := zif_f c323 hf
          refine zr_iconst C0 (v := 0) dL_law_1052 (by decide) ?_
          refine zretW hf ?_
          exact zr_iret C0 (ty := .boolean) rfl (by decide) dL_law_1053 rfl
      have hf := zif_f c287 hf
      rcases Decidable.em ((x4 &&& (63 : Int32)) = 17) with c328 | c328
      · have hf := zif_t c328 hf
        refine zr_tableIn C0 (v := 17) (tgt := 1074) dL_law_40 c328 (by decide) (by decide) rfl (by decide) ?_
        refine zr_aload_n C0 dL_law_1074 rfl 1 rfl ?_
        refine zr_aload_n C0 dL_law_1075 rfl 0 rfl ?_
        refine zr_iload C0 dL_law_1076 4 rfl ?_
        refine zr_iconst C0 (v := 1) dL_law_1078 (by decide) ?_
        refine zr_iadd C0 dL_law_1079 ?_
        obtain ⟨x329, e330, hf⟩ := zbind hf
        refine zr_iald C0 dL_law_1080 e330 ?_
        refine zr_aload_n C0 dL_law_1081 rfl 3 rfl ?_
        obtain ⟨x333, h331, e332, hf⟩ := zbind2 hf
        refine zr_callSX_r C0 cv_X0_249 (m_X0_outletOwner C0.2.2.2.2.2.2.1 e332) (by decide) (by decide) rfl rfl (Nat.le_of_ble_eq_true rfl) dL_law_1082 rfl ?_
        refine zr_istore (i := 5) (lv' := [(5, .int x333), (0, .ref p0), (1, .ref p1), (2, .ref p2), (3, .ref p3), (4, .int p4)]) C0 dL_law_1085 (by decide) (by first | rfl | simp [zst1, zst2, zcat_rf]) ?_
        refine zr_aload_n C0 dL_law_1087 rfl 3 rfl ?_
        refine zr_aload_n C0 dL_law_1088 rfl 1 rfl ?_
        refine zr_iload C0 dL_law_1089 5 rfl ?_
        refine zr_iconst C0 (v := 1) dL_law_1091 (by decide) ?_
        refine zr_iadd C0 dL_law_1092 ?_
        obtain ⟨x334, e335, hf⟩ := zbind hf
        refine zr_iald C0 dL_law_1093 e335 ?_
        obtain ⟨_, e336, hf⟩ := zbind hf
        obtain ⟨x339, h337, e338, hf⟩ := zbind2 hf
        refine zr_callV_r C0 cv_X0_251_X6 rfl (zcko e336) (m_X6_outletOwner C0.2.2.2.2.2.2.1 e338) (by decide) (by decide) rfl rfl (Nat.le_of_ble_eq_true rfl) dL_law_1094 rfl ?_
        refine zr_istore (i := 6) (lv' := [(6, .int x339), (5, .int x333), (0, .ref p0), (1, .ref p1), (2, .ref p2), (3, .ref p3), (4, .int p4)]) C0 dL_law_1097 (by decide) (by first | rfl | simp [zst1, zst2, zcat_rf]) ?_
        refine zr_aload_n C0 dL_law_1099 rfl 4 rfl ?_
        obtain ⟨_, e340, hf⟩ := zbind hf
        obtain ⟨x343, h341, e342, hf⟩ := zbind2 hf
        refine zr_callV_r C0 cv_X0_214_X6 rfl (zcko e340) (m_X6_thrown C0.2.2.2.2.2.2.1 e342) (by decide) (by decide) rfl rfl (Nat.le_of_ble_eq_true rfl) dL_law_1100 rfl ?_
        refine zr_iload C0 dL_law_1103 1 rfl ?_
        refine zr_icmp_eq C0 (tgt := 1110) dL_law_1105 (by decide) (fun c344 => ?_) (fun c344 => ?_)
        · have hf := zif_t c344 hf
          refine zr_iload C0 dL_law_1110 1 rfl ?_
          refine zr_if_ne C0 (tgt := 1127) dL_law_1112 (by decide) (fun c345 => ?_) (fun c345 => ?_)
          · have hf := zif_f c345 hf
            refine zr_sub [2, 3, 4, 5, 6] rfl ?_
            exact w_L_law_b1127 C0 ih hf
          · have hf := zif_t c345 hf
            refine zr_aload_n C0 dL_law_1115 rfl 5 rfl ?_
            refine zr_iconst C0 (v := 0) dL_law_1116 (by decide) ?_
            obtain ⟨x346, e347, hf⟩ := zbind hf
            refine zr_lald C0 dL_law_1117 e347 ?_
            refine zr_iload C0 dL_law_1118 0 rfl ?_
            refine zr_i2l C0 dL_law_1120 ?_
            refine zr_lcmp C0 dL_law_1121 ?_
            refine zr_if_eq C0 (tgt := 1127) dL_law_1122 (by decide) (fun c348 => ?_) (fun c348 => ?_)
            · have hf := zif_t (zl_eq.mp c348) hf
              refine zr_sub [2, 3, 4, 5, 6] rfl ?_
              exact w_L_law_b1127 C0 ih hf
            · have hf := zif_f (zl_eqn.mp c348) hf
              refine zr_iconst C0 (v := 0) dL_law_1125 (by decide) ?_
              refine zretW hf ?_
              exact zr_iret C0 (ty := .boolean) rfl (by decide) dL_law_1126 rfl
        · have hf := zif_f c344 hf
          refine zr_iconst C0 (v := 0) dL_law_1108 (by decide) ?_
          refine zretW hf ?_
          exact zr_iret C0 (ty := .boolean) rfl (by decide) dL_law_1109 rfl
      have hf := zif_f c328 hf
      rcases Decidable.em ((x4 &&& (63 : Int32)) = 18) with c349 | c349
      · have hf := zif_t c349 hf
        refine zr_tableIn C0 (v := 18) (tgt := 1130) dL_law_40 c349 (by decide) (by decide) rfl (by decide) ?_
        refine zr_aload_n C0 dL_law_1130 rfl 1 rfl ?_
        refine zr_aload_n C0 dL_law_1131 rfl 0 rfl ?_
        refine zr_iload C0 dL_law_1132 4 rfl ?_
        refine zr_iconst C0 (v := 1) dL_law_1134 (by decide) ?_
        refine zr_iadd C0 dL_law_1135 ?_
        obtain ⟨x350, e351, hf⟩ := zbind hf
        refine zr_iald C0 dL_law_1136 e351 ?_
        refine zr_aload_n C0 dL_law_1137 rfl 3 rfl ?_
        obtain ⟨x354, h352, e353, hf⟩ := zbind2 hf
        refine zr_callSX_r C0 cv_X0_252 (m_X0_outletCell C0.2.2.2.2.2.2.1 e353) (by decide) (by decide) rfl rfl (Nat.le_of_ble_eq_true rfl) dL_law_1138 rfl ?_
        refine zr_istore (i := 5) (lv' := [(5, .int x354), (0, .ref p0), (1, .ref p1), (2, .ref p2), (3, .ref p3), (4, .int p4)]) C0 dL_law_1141 (by decide) (by first | rfl | simp [zst1, zst2, zcat_rf]) ?_
        refine zr_aload_n C0 dL_law_1143 rfl 3 rfl ?_
        refine zr_aload_n C0 dL_law_1144 rfl 1 rfl ?_
        refine zr_iload C0 dL_law_1145 5 rfl ?_
        refine zr_iconst C0 (v := 1) dL_law_1147 (by decide) ?_
        refine zr_iadd C0 dL_law_1148 ?_
        obtain ⟨x355, e356, hf⟩ := zbind hf
        refine zr_iald C0 dL_law_1149 e356 ?_
        obtain ⟨_, e357, hf⟩ := zbind hf
        obtain ⟨x360, h358, e359, hf⟩ := zbind2 hf
        refine zr_callV_r C0 cv_X0_254_X6 rfl (zcko e357) (m_X6_outletCell C0.2.2.2.2.2.2.1 e359) (by decide) (by decide) rfl rfl (Nat.le_of_ble_eq_true rfl) dL_law_1150 rfl ?_
        refine zr_istore (i := 6) (lv' := [(6, .int x360), (5, .int x354), (0, .ref p0), (1, .ref p1), (2, .ref p2), (3, .ref p3), (4, .int p4)]) C0 dL_law_1153 (by decide) (by first | rfl | simp [zst1, zst2, zcat_rf]) ?_
        refine zr_aload_n C0 dL_law_1155 rfl 4 rfl ?_
        obtain ⟨_, e361, hf⟩ := zbind hf
        obtain ⟨x364, h362, e363, hf⟩ := zbind2 hf
        refine zr_callV_r C0 cv_X0_214_X6 rfl (zcko e361) (m_X6_thrown C0.2.2.2.2.2.2.1 e363) (by decide) (by decide) rfl rfl (Nat.le_of_ble_eq_true rfl) dL_law_1156 rfl ?_
        refine zr_iload C0 dL_law_1159 1 rfl ?_
        refine zr_icmp_eq C0 (tgt := 1166) dL_law_1161 (by decide) (fun c365 => ?_) (fun c365 => ?_)
        · have hf := zif_t c365 hf
          refine zr_iload C0 dL_law_1166 1 rfl ?_
          refine zr_if_ne C0 (tgt := 1183) dL_law_1168 (by decide) (fun c366 => ?_) (fun c366 => ?_)
          · have hf := zif_f c366 hf
            refine zr_sub [2, 3, 4, 5, 6] rfl ?_
            exact w_L_law_b1183 C0 ih hf
          · have hf := zif_t c366 hf
            refine zr_aload_n C0 dL_law_1171 rfl 5 rfl ?_
            refine zr_iconst C0 (v := 0) dL_law_1172 (by decide) ?_
            obtain ⟨x367, e368, hf⟩ := zbind hf
            refine zr_lald C0 dL_law_1173 e368 ?_
            refine zr_iload C0 dL_law_1174 0 rfl ?_
            refine zr_i2l C0 dL_law_1176 ?_
            refine zr_lcmp C0 dL_law_1177 ?_
            refine zr_if_eq C0 (tgt := 1183) dL_law_1178 (by decide) (fun c369 => ?_) (fun c369 => ?_)
            · have hf := zif_t (zl_eq.mp c369) hf
              refine zr_sub [2, 3, 4, 5, 6] rfl ?_
              exact w_L_law_b1183 C0 ih hf
            · have hf := zif_f (zl_eqn.mp c369) hf
              refine zr_iconst C0 (v := 0) dL_law_1181 (by decide) ?_
              refine zretW hf ?_
              exact zr_iret C0 (ty := .boolean) rfl (by decide) dL_law_1182 rfl
        · have hf := zif_f c365 hf
          refine zr_iconst C0 (v := 0) dL_law_1164 (by decide) ?_
          refine zretW hf ?_
          exact zr_iret C0 (ty := .boolean) rfl (by decide) dL_law_1165 rfl
      have hf := zif_f c349 hf
      rcases Decidable.em ((x4 &&& (63 : Int32)) = 19) with c370 | c370
      · have hf := zif_t c370 hf
        refine zr_tableIn C0 (v := 19) (tgt := 1186) dL_law_40 c370 (by decide) (by decide) rfl (by decide) ?_
        refine zr_aload_n C0 dL_law_1186 rfl 1 rfl ?_
        refine zr_aload_n C0 dL_law_1187 rfl 0 rfl ?_
        refine zr_iload C0 dL_law_1188 4 rfl ?_
        refine zr_iconst C0 (v := 1) dL_law_1190 (by decide) ?_
        refine zr_iadd C0 dL_law_1191 ?_
        obtain ⟨x371, e372, hf⟩ := zbind hf
        refine zr_iald C0 dL_law_1192 e372 ?_
        refine zr_aload_n C0 dL_law_1193 rfl 0 rfl ?_
        refine zr_iload C0 dL_law_1194 4 rfl ?_
        refine zr_iconst C0 (v := 2) dL_law_1196 (by decide) ?_
        refine zr_iadd C0 dL_law_1197 ?_
        obtain ⟨x373, e374, hf⟩ := zbind hf
        refine zr_iald C0 dL_law_1198 e374 ?_
        refine zr_aload_n C0 dL_law_1199 rfl 0 rfl ?_
        refine zr_iload C0 dL_law_1200 4 rfl ?_
        refine zr_iconst C0 (v := 3) dL_law_1202 (by decide) ?_
        refine zr_iadd C0 dL_law_1203 ?_
        obtain ⟨x375, e376, hf⟩ := zbind hf
        refine zr_iald C0 dL_law_1204 e376 ?_
        refine zr_aload_n C0 dL_law_1205 rfl 3 rfl ?_
        obtain ⟨x379, h377, e378, hf⟩ := zbind2 hf
        refine zr_callSX_r C0 cv_X0_255 (m_X0_openOutlet C0.2.2.2.2.2.2.1 e378) (by decide) (by decide) rfl rfl (Nat.le_of_ble_eq_true rfl) dL_law_1206 rfl ?_
        refine zr_istore (i := 5) (lv' := [(5, .int x379), (0, .ref p0), (1, .ref p1), (2, .ref p2), (3, .ref p3), (4, .int p4)]) C0 dL_law_1209 (by decide) (by first | rfl | simp [zst1, zst2, zcat_rf]) ?_
        refine zr_aload_n C0 dL_law_1211 rfl 3 rfl ?_
        refine zr_aload_n C0 dL_law_1212 rfl 1 rfl ?_
        refine zr_iload C0 dL_law_1213 5 rfl ?_
        refine zr_iconst C0 (v := 1) dL_law_1215 (by decide) ?_
        refine zr_iadd C0 dL_law_1216 ?_
        obtain ⟨x380, e381, hf⟩ := zbind hf
        refine zr_iald C0 dL_law_1217 e381 ?_
        refine zr_aload_n C0 dL_law_1218 rfl 1 rfl ?_
        refine zr_iload C0 dL_law_1219 5 rfl ?_
        refine zr_iconst C0 (v := 2) dL_law_1221 (by decide) ?_
        refine zr_iadd C0 dL_law_1222 ?_
        obtain ⟨x382, e383, hf⟩ := zbind hf
        refine zr_iald C0 dL_law_1223 e383 ?_
        refine zr_aload_n C0 dL_law_1224 rfl 1 rfl ?_
        refine zr_iload C0 dL_law_1225 5 rfl ?_
        refine zr_iconst C0 (v := 3) dL_law_1227 (by decide) ?_
        refine zr_iadd C0 dL_law_1228 ?_
        obtain ⟨x384, e385, hf⟩ := zbind hf
        refine zr_iald C0 dL_law_1229 e385 ?_
        obtain ⟨_, e386, hf⟩ := zbind hf
        obtain ⟨x389, h387, e388, hf⟩ := zbind2 hf
        refine zr_callV_r C0 cv_X0_257_X6 rfl (zcko e386) (m_X6_openOutlet C0.2.2.2.2.2.2.1 e388) (by decide) (by decide) rfl rfl (Nat.le_of_ble_eq_true rfl) dL_law_1230 rfl ?_
        refine zr_istore (i := 6) (lv' := [(6, .int x389), (5, .int x379), (0, .ref p0), (1, .ref p1), (2, .ref p2), (3, .ref p3), (4, .int p4)]) C0 dL_law_1233 (by decide) (by first | rfl | simp [zst1, zst2, zcat_rf]) ?_
        refine zr_aload_n C0 dL_law_1235 rfl 4 rfl ?_
        obtain ⟨_, e390, hf⟩ := zbind hf
        obtain ⟨x393, h391, e392, hf⟩ := zbind2 hf
        refine zr_callV_r C0 cv_X0_214_X6 rfl (zcko e390) (m_X6_thrown C0.2.2.2.2.2.2.1 e392) (by decide) (by decide) rfl rfl (Nat.le_of_ble_eq_true rfl) dL_law_1236 rfl ?_
        refine zr_iload C0 dL_law_1239 1 rfl ?_
        refine zr_icmp_eq C0 (tgt := 1246) dL_law_1241 (by decide) (fun c394 => ?_) (fun c394 => ?_)
        · have hf := zif_t c394 hf
          refine zr_iload C0 dL_law_1246 1 rfl ?_
          refine zr_if_ne C0 (tgt := 1263) dL_law_1248 (by decide) (fun c395 => ?_) (fun c395 => ?_)
          · have hf := zif_f c395 hf
            refine zr_sub [2, 3, 4, 5, 6] rfl ?_
            exact w_L_law_b1263 C0 ih hf
          · have hf := zif_t c395 hf
            refine zr_aload_n C0 dL_law_1251 rfl 5 rfl ?_
            refine zr_iconst C0 (v := 0) dL_law_1252 (by decide) ?_
            obtain ⟨x396, e397, hf⟩ := zbind hf
            refine zr_lald C0 dL_law_1253 e397 ?_
            refine zr_iload C0 dL_law_1254 0 rfl ?_
            refine zr_i2l C0 dL_law_1256 ?_
            refine zr_lcmp C0 dL_law_1257 ?_
            refine zr_if_eq C0 (tgt := 1263) dL_law_1258 (by decide) (fun c398 => ?_) (fun c398 => ?_)
            · have hf := zif_t (zl_eq.mp c398) hf
              refine zr_sub [2, 3, 4, 5, 6] rfl ?_
              exact w_L_law_b1263 C0 ih hf
            · have hf := zif_f (zl_eqn.mp c398) hf
              refine zr_iconst C0 (v := 0) dL_law_1261 (by decide) ?_
              refine zretW hf ?_
              exact zr_iret C0 (ty := .boolean) rfl (by decide) dL_law_1262 rfl
        · have hf := zif_f c394 hf
          refine zr_iconst C0 (v := 0) dL_law_1244 (by decide) ?_
          refine zretW hf ?_
          exact zr_iret C0 (ty := .boolean) rfl (by decide) dL_law_1245 rfl
      have hf := zif_f c370 hf
      rcases Decidable.em ((x4 &&& (63 : Int32)) = 20) with c399 | c399
      · have hf := zif_t c399 hf
        refine zr_tableIn C0 (v := 20) (tgt := 1266) dL_law_40 c399 (by decide) (by decide) rfl (by decide) ?_
        refine zr_aload_n C0 dL_law_1266 rfl 1 rfl ?_
        refine zr_aload_n C0 dL_law_1267 rfl 0 rfl ?_
        refine zr_iload C0 dL_law_1268 4 rfl ?_
        refine zr_iconst C0 (v := 1) dL_law_1270 (by decide) ?_
        refine zr_iadd C0 dL_law_1271 ?_
        obtain ⟨x400, e401, hf⟩ := zbind hf
        refine zr_iald C0 dL_law_1272 e401 ?_
        refine zr_aload_n C0 dL_law_1273 rfl 3 rfl ?_
        obtain ⟨x404, h402, e403, hf⟩ := zbind2 hf
        refine zr_callSX_r C0 cv_X0_258 (m_X0_bestSite C0.2.2.2.2.2.2.1 e403) (by decide) (by decide) rfl rfl (Nat.le_of_ble_eq_true rfl) dL_law_1274 rfl ?_
        refine zr_istore (i := 5) (lv' := [(5, .int x404), (0, .ref p0), (1, .ref p1), (2, .ref p2), (3, .ref p3), (4, .int p4)]) C0 dL_law_1277 (by decide) (by first | rfl | simp [zst1, zst2, zcat_rf]) ?_
        refine zr_aload_n C0 dL_law_1279 rfl 3 rfl ?_
        refine zr_aload_n C0 dL_law_1280 rfl 1 rfl ?_
        refine zr_iload C0 dL_law_1281 5 rfl ?_
        refine zr_iconst C0 (v := 1) dL_law_1283 (by decide) ?_
        refine zr_iadd C0 dL_law_1284 ?_
        obtain ⟨x405, e406, hf⟩ := zbind hf
        refine zr_iald C0 dL_law_1285 e406 ?_
        obtain ⟨_, e407, hf⟩ := zbind hf
        obtain ⟨x410, h408, e409, hf⟩ := zbind2 hf
        refine zr_callV_r C0 cv_X0_260_X6 rfl (zcko e407) (m_X6_bestSite C0.2.2.2.2.2.2.1 e409) (by decide) (by decide) rfl rfl (Nat.le_of_ble_eq_true rfl) dL_law_1286 rfl ?_
        refine zr_istore (i := 6) (lv' := [(6, .int x410), (5, .int x404), (0, .ref p0), (1, .ref p1), (2, .ref p2), (3, .ref p3), (4, .int p4)]) C0 dL_law_1289 (by decide) (by first | rfl | simp [zst1, zst2, zcat_rf]) ?_
        refine zr_aload_n C0 dL_law_1291 rfl 4 rfl ?_
        obtain ⟨_, e411, hf⟩ := zbind hf
        obtain ⟨x414, h412, e413, hf⟩ := zbind2 hf
        refine zr_callV_r C0 cv_X0_214_X6 rfl (zcko e411) (m_X6_thrown C0.2.2.2.2.2.2.1 e413) (by decide) (by decide) rfl rfl (Nat.le_of_ble_eq_true rfl) dL_law_1292 rfl ?_
        refine zr_iload C0 dL_law_1295 1 rfl ?_
        refine zr_icmp_eq C0 (tgt := 1302) dL_law_1297 (by decide) (fun c415 => ?_) (fun c415 => ?_)
        · have hf := zif_t c415 hf
          refine zr_iload C0 dL_law_1302 1 rfl ?_
          refine zr_if_ne C0 (tgt := 1319) dL_law_1304 (by decide) (fun c416 => ?_) (fun c416 => ?_)
          · have hf := zif_f c416 hf
            refine zr_sub [2, 3, 4, 5, 6] rfl ?_
            exact w_L_law_b1319 C0 ih hf
          · have hf := zif_t c416 hf
            refine zr_aload_n C0 dL_law_1307 rfl 5 rfl ?_
            refine zr_iconst C0 (v := 0) dL_law_1308 (by decide) ?_
            obtain ⟨x417, e418, hf⟩ := zbind hf
            refine zr_lald C0 dL_law_1309 e418 ?_
            refine zr_iload C0 dL_law_1310 0 rfl ?_
            refine zr_i2l C0 dL_law_1312 ?_
            refine zr_lcmp C0 dL_law_1313 ?_
            refine zr_if_eq C0 (tgt := 1319) dL_law_1314 (by decide) (fun c419 => ?_) (fun c419 => ?_)
            · have hf := zif_t (zl_eq.mp c419) hf
              refine zr_sub [2, 3, 4, 5, 6] rfl ?_
              exact w_L_law_b1319 C0 ih hf
            · have hf := zif_f (zl_eqn.mp c419) hf
              refine zr_iconst C0 (v := 0) dL_law_1317 (by decide) ?_
              refine zretW hf ?_
              exact zr_iret C0 (ty := .boolean) rfl (by decide) dL_law_1318 rfl
        · have hf := zif_f c415 hf
          refine zr_iconst C0 (v := 0) dL_law_1300 (by decide) ?_
          refine zretW hf ?_
          exact zr_iret C0 (ty := .boolean) rfl (by decide) dL_law_1301 rfl
      have hf := zif_f c399 hf
      rcases Decidable.em ((x4 &&& (63 : Int32)) = 21) with c420 | c420
      · have hf := zif_t c420 hf
        refine zr_tableIn C0 (v := 21) (tgt := 1322) dL_law_40 c420 (by decide) (by decide) rfl (by decide) ?_
        refine zr_aload_n C0 dL_law_1322 rfl 1 rfl ?_
        refine zr_aload_n C0 dL_law_1323 rfl 0 rfl ?_
        refine zr_iload C0 dL_law_1324 4 rfl ?_
        refine zr_iconst C0 (v := 1) dL_law_1326 (by decide) ?_
        refine zr_iadd C0 dL_law_1327 ?_
        obtain ⟨x421, e422, hf⟩ := zbind hf
        refine zr_iald C0 dL_law_1328 e422 ?_
        refine zr_aload_n C0 dL_law_1329 rfl 0 rfl ?_
        refine zr_iload C0 dL_law_1330 4 rfl ?_
        refine zr_iconst C0 (v := 2) dL_law_1332 (by decide) ?_
        refine zr_iadd C0 dL_law_1333 ?_
        obtain ⟨x423, e424, hf⟩ := zbind hf
        refine zr_iald C0 dL_law_1334 e424 ?_
        refine zr_aload_n C0 dL_law_1335 rfl 3 rfl ?_
        obtain ⟨x427, h425, e426, hf⟩ := zbind2 hf
        refine zr_callSX_r C0 cv_X0_261 (m_X0_coverage C0.2.2.2.2.2.2.1 e426) (by decide) (by decide) rfl rfl (Nat.le_of_ble_eq_true rfl) dL_law_1336 rfl ?_
        refine zr_istore (i := 5) (lv' := [(5, .int x427), (0, .ref p0), (1, .ref p1), (2, .ref p2), (3, .ref p3), (4, .int p4)]) C0 dL_law_1339 (by decide) (by first | rfl | simp [zst1, zst2, zcat_rf]) ?_
        refine zr_aload_n C0 dL_law_1341 rfl 3 rfl ?_
        refine zr_aload_n C0 dL_law_1342 rfl 1 rfl ?_
        refine zr_iload C0 dL_law_1343 5 rfl ?_
        refine zr_iconst C0 (v := 1) dL_law_1345 (by decide) ?_
        refine zr_iadd C0 dL_law_1346 ?_
        obtain ⟨x428, e429, hf⟩ := zbind hf
        refine zr_iald C0 dL_law_1347 e429 ?_
        refine zr_aload_n C0 dL_law_1348 rfl 1 rfl ?_
        refine zr_iload C0 dL_law_1349 5 rfl ?_
        refine zr_iconst C0 (v := 2) dL_law_1351 (by decide) ?_
        refine zr_iadd C0 dL_law_1352 ?_
        obtain ⟨x430, e431, hf⟩ := zbind hf
        refine zr_iald C0 dL_law_1353 e431 ?_
        obtain ⟨_, e432, hf⟩ := zbind hf
        obtain ⟨x435, h433, e434, hf⟩ := zbind2 hf
        refine zr_callV_r C0 cv_X0_263_X6 rfl (zcko e432) (m_X6_coverage C0.2.2.2.2.2.2.1 e434) (by decide) (by decide) rfl rfl (Nat.le_of_ble_eq_true rfl) dL_law_1354 rfl ?_
        refine zr_istore (i := 6) (lv' := [(6, .int x435), (5, .int x427), (0, .ref p0), (1, .ref p1), (2, .ref p2), (3, .ref p3), (4, .int p4)]) C0 dL_law_1357 (by decide) (by first | rfl | simp [zst1, zst2, zcat_rf]) ?_
        refine zr_aload_n C0 dL_law_1359 rfl 4 rfl ?_
        obtain ⟨_, e436, hf⟩ := zbind hf
        obtain ⟨x439, h437, e438, hf⟩ := zbind2 hf
        refine zr_callV_r C0 cv_X0_214_X6 rfl (zcko e436) (m_X6_thrown C0.2.2.2.2.2.2.1 e438) (by decide) (by decide) rfl rfl (Nat.le_of_ble_eq_true rfl) dL_law_1360 rfl ?_
        refine zr_iload C0 dL_law_1363 1 rfl ?_
        refine zr_icmp_eq C0 (tgt := 1370) dL_law_1365 (by decide) (fun c440 => ?_) (fun c440 => ?_)
        · have hf := zif_t c440 hf
          refine zr_iload C0 dL_law_1370 1 rfl ?_
          refine zr_if_ne C0 (tgt := 1387) dL_law_1372 (by decide) (fun c441 => ?_) (fun c441 => ?_)
          · have hf := zif_f c441 hf
            refine zr_sub [2, 3, 4, 5, 6] rfl ?_
            exact w_L_law_b1387 C0 ih hf
          · have hf := zif_t c441 hf
            refine zr_aload_n C0 dL_law_1375 rfl 5 rfl ?_
            refine zr_iconst C0 (v := 0) dL_law_1376 (by decide) ?_
            obtain ⟨x442, e443, hf⟩ := zbind hf
            refine zr_lald C0 dL_law_1377 e443 ?_
            refine zr_iload C0 dL_law_1378 0 rfl ?_
            refine zr_i2l C0 dL_law_1380 ?_
            refine zr_lcmp C0 dL_law_1381 ?_
            refine zr_if_eq C0 (tgt := 1387) dL_law_1382 (by decide) (fun c444 => ?_) (fun c444 => ?_)
            · have hf := zif_t (zl_eq.mp c444) hf
              refine zr_sub [2, 3, 4, 5, 6] rfl ?_
              exact w_L_law_b1387 C0 ih hf
            · have hf := zif_f (zl_eqn.mp c444) hf
              refine zr_iconst C0 (v := 0) dL_law_1385 (by decide) ?_
              refine zretW hf ?_
              exact zr_iret C0 (ty := .boolean) rfl (by decide) dL_law_1386 rfl
        · have hf := zif_f c440 hf
          refine zr_iconst C0 (v := 0) dL_law_1368 (by decide) ?_
          refine zretW hf ?_
          exact zr_iret C0 (ty := .boolean) rfl (by decide) dL_law_1369 rfl
      have hf := zif_f c420 hf
      rcases Decidable.em ((x4 &&& (63 : Int32)) = 22) with c445 | c445
      · have hf := zif_t c445 hf
        refine zr_tableIn C0 (v := 22) (tgt := 1390) dL_law_40 c445 (by decide) (by decide) rfl (by decide) ?_
        refine zr_aload_n C0 dL_law_1390 rfl 1 rfl ?_
        refine zr_aload_n C0 dL_law_1391 rfl 0 rfl ?_
        refine zr_iload C0 dL_law_1392 4 rfl ?_
        refine zr_iconst C0 (v := 1) dL_law_1394 (by decide) ?_
        refine zr_iadd C0 dL_law_1395 ?_
        obtain ⟨x446, e447, hf⟩ := zbind hf
        refine zr_iald C0 dL_law_1396 e447 ?_
        refine zr_aload_n C0 dL_law_1397 rfl 0 rfl ?_
        refine zr_iload C0 dL_law_1398 4 rfl ?_
        refine zr_iconst C0 (v := 2) dL_law_1400 (by decide) ?_
        refine zr_iadd C0 dL_law_1401 ?_
        obtain ⟨x448, e449, hf⟩ := zbind hf
        refine zr_iald C0 dL_law_1402 e449 ?_
        refine zr_aload_n C0 dL_law_1403 rfl 3 rfl ?_
        obtain ⟨x452, h450, e451, hf⟩ := zbind2 hf
        refine zr_callSX_r C0 cv_X0_264 (m_X0_rivalCells C0.2.2.2.2.2.2.1 e451) (by decide) (by decide) rfl rfl (Nat.le_of_ble_eq_true rfl) dL_law_1404 rfl ?_
        refine zr_istore (i := 5) (lv' := [(5, .int x452), (0, .ref p0), (1, .ref p1), (2, .ref p2), (3, .ref p3), (4, .int p4)]) C0 dL_law_1407 (by decide) (by first | rfl | simp [zst1, zst2, zcat_rf]) ?_
        refine zr_aload_n C0 dL_law_1409 rfl 3 rfl ?_
        refine zr_aload_n C0 dL_law_1410 rfl 1 rfl ?_
        refine zr_iload C0 dL_law_1411 5 rfl ?_
        refine zr_iconst C0 (v := 1) dL_law_1413 (by decide) ?_
        refine zr_iadd C0 dL_law_1414 ?_
        obtain ⟨x453, e454, hf⟩ := zbind hf
        refine zr_iald C0 dL_law_1415 e454 ?_
        refine zr_aload_n C0 dL_law_1416 rfl 1 rfl ?_
        refine zr_iload C0 dL_law_1417 5 rfl ?_
        refine zr_iconst C0 (v := 2) dL_law_1419 (by decide) ?_
        refine zr_iadd C0 dL_law_1420 ?_
        obtain ⟨x455, e456, hf⟩ := zbind hf
        refine zr_iald C0 dL_law_1421 e456 ?_
        obtain ⟨_, e457, hf⟩ := zbind hf
        obtain ⟨x460, h458, e459, hf⟩ := zbind2 hf
        refine zr_callV_r C0 cv_X0_266_X6 rfl (zcko e457) (m_X6_rivalCells C0.2.2.2.2.2.2.1 e459) (by decide) (by decide) rfl rfl (Nat.le_of_ble_eq_true rfl) dL_law_1422 rfl ?_
        refine zr_istore (i := 6) (lv' := [(6, .int x460), (5, .int x452), (0, .ref p0), (1, .ref p1), (2, .ref p2), (3, .ref p3), (4, .int p4)]) C0 dL_law_1425 (by decide) (by first | rfl | simp [zst1, zst2, zcat_rf]) ?_
        refine zr_aload_n C0 dL_law_1427 rfl 4 rfl ?_
        obtain ⟨_, e461, hf⟩ := zbind hf
        obtain ⟨x464, h462, e463, hf⟩ := zbind2 hf
        refine zr_callV_r C0 cv_X0_214_X6 rfl (zcko e461) (m_X6_thrown C0.2.2.2.2.2.2.1 e463) (by decide) (by decide) rfl rfl (Nat.le_of_ble_eq_true rfl) dL_law_1428 rfl ?_
        refine zr_iload C0 dL_law_1431 1 rfl ?_
        refine zr_icmp_eq C0 (tgt := 1438) dL_law_1433 (by decide) (fun c465 => ?_) (fun c465 => ?_)
        · have hf := zif_t c465 hf
          refine zr_iload C0 dL_law_1438 1 rfl ?_
          refine zr_if_ne C0 (tgt := 1455) dL_law_1440 (by decide) (fun c466 => ?_) (fun c466 => ?_)
          · have hf := zif_f c466 hf
            refine zr_sub [2, 3, 4, 5, 6] rfl ?_
            exact w_L_law_b1455 C0 ih hf
          · have hf := zif_t c466 hf
            refine zr_aload_n C0 dL_law_1443 rfl 5 rfl ?_
            refine zr_iconst C0 (v := 0) dL_law_1444 (by decide) ?_
            obtain ⟨x467, e468, hf⟩ := zbind hf
            refine zr_lald C0 dL_law_1445 e468 ?_
            refine zr_iload C0 dL_law_1446 0 rfl ?_
            refine zr_i2l C0 dL_law_1448 ?_
            refine zr_lcmp C0 dL_law_1449 ?_
            refine zr_if_eq C0 (tgt := 1455) dL_law_1450 (by decide) (fun c469 => ?_) (fun c469 => ?_)
            · have hf := zif_t (zl_eq.mp c469) hf
              refine zr_sub [2, 3, 4, 5, 6] rfl ?_
              exact w_L_law_b1455 C0 ih hf
            · have hf := zif_f (zl_eqn.mp c469) hf
              refine zr_iconst C0 (v := 0) dL_law_1453 (by decide) ?_
              refine zretW hf ?_
              exact zr_iret C0 (ty := .boolean) rfl (by decide) dL_law_1454 rfl
        · have hf := zif_f c465 hf
          refine zr_iconst C0 (v := 0) dL_law_1436 (by decide) ?_
          refine zretW hf ?_
          exact zr_iret C0 (ty := .boolean) rfl (by decide) dL_law_1437 rfl
      have hf := zif_f c445 hf
      rcases Decidable.em ((x4 &&& (63 : Int32)) = 23) with c470 | c470
      · have hf := zif_t c470 hf
        refine zr_tableIn C0 (v := 23) (tgt := 1458) dL_law_40 c470 (by decide) (by decide) rfl (by decide) ?_
        refine zr_aload_n C0 dL_law_1458 rfl 1 rfl ?_
        refine zr_aload_n C0 dL_law_1459 rfl 0 rfl ?_
        refine zr_iload C0 dL_law_1460 4 rfl ?_
        refine zr_iconst C0 (v := 1) dL_law_1462 (by decide) ?_
        refine zr_iadd C0 dL_law_1463 ?_
        obtain ⟨x471, e472, hf⟩ := zbind hf
        refine zr_iald C0 dL_law_1464 e472 ?_
        refine zr_aload_n C0 dL_law_1465 rfl 3 rfl ?_
        obtain ⟨x475, h473, e474, hf⟩ := zbind2 hf
        refine zr_callSX_r C0 cv_X0_267 (m_X0_halvingLine C0.2.2.2.2.2.2.1 e474) (by decide) (by decide) rfl rfl (Nat.le_of_ble_eq_true rfl) dL_law_1466 rfl ?_
        refine zr_istore (i := 5) (lv' := [(5, .int x475), (0, .ref p0), (1, .ref p1), (2, .ref p2), (3, .ref p3), (4, .int p4)]) C0 dL_law_1469 (by decide) (by first | rfl | simp [zst1, zst2, zcat_rf]) ?_
        refine zr_aload_n C0 dL_law_1471 rfl 3 rfl ?_
        refine zr_aload_n C0 dL_law_1472 rfl 1 rfl ?_
        refine zr_iload C0 dL_law_1473 5 rfl ?_
        refine zr_iconst C0 (v := 1) dL_law_1475 (by decide) ?_
        refine zr_iadd C0 dL_law_1476 ?_
        obtain ⟨x476, e477, hf⟩ := zbind hf
        refine zr_iald C0 dL_law_1477 e477 ?_
        obtain ⟨_, e478, hf⟩ := zbind hf
        obtain ⟨x481, h479, e480, hf⟩ := zbind2 hf
        refine zr_callV_r C0 cv_X0_269_X6 rfl (zcko e478) (m_X6_halvingLine C0.2.2.2.2.2.2.1 e480) (by decide) (by decide) rfl rfl (Nat.le_of_ble_eq_true rfl) dL_law_1478 rfl ?_
        refine zr_istore (i := 6) (lv' := [(6, .int x481), (5, .int x475), (0, .ref p0), (1, .ref p1), (2, .ref p2), (3, .ref p3), (4, .int p4)]) C0 dL_law_1481 (by decide) (by first | rfl | simp [zst1, zst2, zcat_rf]) ?_
        refine zr_aload_n C0 dL_law_1483 rfl 4 rfl ?_
        obtain ⟨_, e482, hf⟩ := zbind hf
        obtain ⟨x485, h483, e484, hf⟩ := zbind2 hf
        refine zr_callV_r C0 cv_X0_214_X6 rfl (zcko e482) (m_X6_thrown C0.2.2.2.2.2.2.1 e484) (by decide) (by decide) rfl rfl (Nat.le_of_ble_eq_true rfl) dL_law_1484 rfl ?_
        refine zr_iload C0 dL_law_1487 1 rfl ?_
        refine zr_icmp_eq C0 (tgt := 1494) dL_law_1489 (by decide) (fun c486 => ?_) (fun c486 => ?_)
        · have hf := zif_t c486 hf
          refine zr_iload C0 dL_law_1494 1 rfl ?_
          refine zr_if_ne C0 (tgt := 1511) dL_law_1496 (by decide) (fun c487 => ?_) (fun c487 => ?_)
          · have hf := zif_f c487 hf
            refine zr_sub [2, 3, 4, 5, 6] rfl ?_
            exact w_L_law_b1511 C0 ih hf
          · have hf := zif_t c487 hf
            refine zr_aload_n C0 dL_law_1499 rfl 5 rfl ?_
            refine zr_iconst C0 (v := 0) dL_law_1500 (by decide) ?_
            obtain ⟨x488, e489, hf⟩ := zbind hf
            refine zr_lald C0 dL_law_1501 e489 ?_
            refine zr_iload C0 dL_law_1502 0 rfl ?_
            refine zr_i2l C0 dL_law_1504 ?_
            refine zr_lcmp C0 dL_law_1505 ?_
            refine zr_if_eq C0 (tgt := 1511) dL_law_1506 (by decide) (fun c490 => ?_) (fun c490 => ?_)
            · have hf := zif_t (zl_eq.mp c490) hf
              refine zr_sub [2, 3, 4, 5, 6] rfl ?_
              exact w_L_law_b1511 C0 ih hf
            · have hf := zif_f (zl_eqn.mp c490) hf
              refine zr_iconst C0 (v := 0) dL_law_1509 (by decide) ?_
              refine zretW hf ?_
              exact zr_iret C0 (ty := .boolean) rfl (by decide) dL_law_1510 rfl
        · have hf := zif_f c486 hf
          refine zr_iconst C0 (v := 0) dL_law_1492 (by decide) ?_
          refine zretW hf ?_
          exact zr_iret C0 (ty := .boolean) rfl (by decide) dL_law_1493 rfl
      have hf := zif_f c470 hf
      rcases Decidable.em ((x4 &&& (63 : Int32)) = 24) with c491 | c491
      · have hf := zif_t c491 hf
        refine zr_tableIn C0 (v := 24) (tgt := 1514) dL_law_40 c491 (by decide) (by decide) rfl (by decide) ?_
        refine zr_aload_n C0 dL_law_1514 rfl 1 rfl ?_
        refine zr_aload_n C0 dL_law_1515 rfl 0 rfl ?_
        refine zr_iload C0 dL_law_1516 4 rfl ?_
        refine zr_iconst C0 (v := 1) dL_law_1518 (by decide) ?_
        refine zr_iadd C0 dL_law_1519 ?_
        obtain ⟨x492, e493, hf⟩ := zbind hf
        refine zr_iald C0 dL_law_1520 e493 ?_
        refine zr_aload_n C0 dL_law_1521 rfl 0 rfl ?_
        refine zr_iload C0 dL_law_1522 4 rfl ?_
        refine zr_iconst C0 (v := 2) dL_law_1524 (by decide) ?_
        refine zr_iadd C0 dL_law_1525 ?_
        obtain ⟨x494, e495, hf⟩ := zbind hf
        refine zr_iald C0 dL_law_1526 e495 ?_
        refine zr_i2l C0 dL_law_1527 ?_
        refine zr_bipush C0 (v := 32) dL_law_1528 (by decide) ?_
        refine zr_lshl C0 dL_law_1530 ?_
        refine zr_aload_n C0 dL_law_1531 rfl 0 rfl ?_
        refine zr_iload C0 dL_law_1532 4 rfl ?_
        refine zr_iconst C0 (v := 3) dL_law_1534 (by decide) ?_
        refine zr_iadd C0 dL_law_1535 ?_
        obtain ⟨x496, e497, hf⟩ := zbind hf
        refine zr_iald C0 dL_law_1536 e497 ?_
        refine zr_i2l C0 dL_law_1537 ?_
        refine zr_ldc2 C0 (v := 4294967295) q3235 dL_law_1538 ?_
        refine zr_land C0 dL_law_1541 ?_
        refine zr_lor C0 dL_law_1542 ?_
        refine zr_aload_n C0 dL_law_1543 rfl 3 rfl ?_
        obtain ⟨x500, h498, e499, hf⟩ := zbind2 hf
        refine zr_callSX_r C0 cv_X0_272 (m_X0_royalty C0.2.2.2.2.2.2.1 e499) (by decide) (by decide) rfl rfl (Nat.le_of_ble_eq_true rfl) dL_law_1544 rfl ?_
        refine zr_istore (i := 5) (lv' := [(5, .int x500), (0, .ref p0), (1, .ref p1), (2, .ref p2), (3, .ref p3), (4, .int p4)]) C0 dL_law_1547 (by decide) (by first | rfl | simp [zst1, zst2, zcat_rf]) ?_
        refine zr_aload_n C0 dL_law_1549 rfl 3 rfl ?_
        refine zr_aload_n C0 dL_law_1550 rfl 1 rfl ?_
        refine zr_iload C0 dL_law_1551 5 rfl ?_
        refine zr_iconst C0 (v := 1) dL_law_1553 (by decide) ?_
        refine zr_iadd C0 dL_law_1554 ?_
        obtain ⟨x501, e502, hf⟩ := zbind hf
        refine zr_iald C0 dL_law_1555 e502 ?_
        refine zr_aload_n C0 dL_law_1556 rfl 1 rfl ?_
        refine zr_iload C0 dL_law_1557 5 rfl ?_
        refine zr_iconst C0 (v := 2) dL_law_1559 (by decide) ?_
        refine zr_iadd C0 dL_law_1560 ?_
        obtain ⟨x503, e504, hf⟩ := zbind hf
        refine zr_iald C0 dL_law_1561 e504 ?_
        refine zr_i2l C0 dL_law_1562 ?_
        refine zr_bipush C0 (v := 32) dL_law_1563 (by decide) ?_
        refine zr_lshl C0 dL_law_1565 ?_
        refine zr_aload_n C0 dL_law_1566 rfl 1 rfl ?_
        refine zr_iload C0 dL_law_1567 5 rfl ?_
        refine zr_iconst C0 (v := 3) dL_law_1569 (by decide) ?_
        refine zr_iadd C0 dL_law_1570 ?_
        obtain ⟨x505, e506, hf⟩ := zbind hf
        refine zr_iald C0 dL_law_1571 e506 ?_
        refine zr_i2l C0 dL_law_1572 ?_
        refine zr_ldc2 C0 (v := 4294967295) q3235 dL_law_1573 ?_
        refine zr_land C0 dL_law_1576 ?_
        refine zr_lor C0 dL_law_1577 ?_
        obtain ⟨_, e507, hf⟩ := zbind hf
        obtain ⟨x510, h508, e509, hf⟩ := zbind2 hf
        refine zr_callV_r C0 cv_X0_275_X6 rfl (zcko e507) (m_X6_royalty C0.2.2.2.2.2.2.1 e509) (by decide) (by decide) rfl rfl (Nat.le_of_ble_eq_true rfl) dL_law_1578 rfl ?_
        refine zr_lstore (i := 6) (lv' := [(6, .long x510), (5, .int x500), (0, .ref p0), (1, .ref p1), (2, .ref p2), (3, .ref p3), (4, .int p4)]) C0 dL_law_1581 (by decide) (by first | rfl | simp [zst1, zst2, zcat_rf]) ?_
        refine zr_aload_n C0 dL_law_1583 rfl 4 rfl ?_
        obtain ⟨_, e511, hf⟩ := zbind hf
        obtain ⟨x514, h512, e513, hf⟩ := zbind2 hf
        refine zr_callV_r C0 cv_X0_214_X6 rfl (zcko e511) (m_X6_thrown C0.2.2.2.2.2.2.1 e513) (by decide) (by decide) rfl rfl (Nat.le_of_ble_eq_true rfl) dL_law_1584 rfl ?_
        refine zr_iload C0 dL_law_1587 1 rfl ?_
        refine zr_icmp_eq C0 (tgt := 1594) dL_law_1589 (by decide) (fun c515 => ?_) (fun c515 => ?_)
        · have hf := zif_t c515 hf
          refine zr_iload C0 dL_law_1594 1 rfl ?_
          refine zr_if_ne C0 (tgt := 1610) dL_law_1596 (by decide) (fun c516 => ?_) (fun c516 => ?_)
          · have hf := zif_f c516 hf
            refine zr_sub [2, 3, 4, 5, 6] rfl ?_
            exact w_L_law_b1610 C0 ih hf
          · have hf := zif_t c516 hf
            refine zr_aload_n C0 dL_law_1599 rfl 5 rfl ?_
            refine zr_iconst C0 (v := 0) dL_law_1600 (by decide) ?_
            obtain ⟨x517, e518, hf⟩ := zbind hf
            refine zr_lald C0 dL_law_1601 e518 ?_
            refine zr_lload C0 dL_law_1602 0 rfl ?_
            refine zr_lcmp C0 dL_law_1604 ?_
            refine zr_if_eq C0 (tgt := 1610) dL_law_1605 (by decide) (fun c519 => ?_) (fun c519 => ?_)
            · have hf := zif_t (zl_eq.mp c519) hf
              refine zr_sub [2, 3, 4, 5, 6] rfl ?_
              exact w_L_law_b1610 C0 ih hf
            · have hf := zif_f (zl_eqn.mp c519) hf
              refine zr_iconst C0 (v := 0) dL_law_1608 (by decide) ?_
              refine zretW hf ?_
              exact zr_iret C0 (ty := .boolean) rfl (by decide) dL_law_1609 rfl
        · have hf := zif_f c515 hf
          refine zr_iconst C0 (v := 0) dL_law_1592 (by decide) ?_
          refine zretW hf ?_
          exact zr_iret C0 (ty := .boolean) rfl (by decide) dL_law_1593 rfl
      have hf := zif_f c491 hf
      rcases Decidable.em ((x4 &&& (63 : Int32)) = 25) with c520 | c520
      · have hf := zif_t c520 hf
        refine zr_tableIn C0 (v := 25) (tgt := 1613) dL_law_40 c520 (by decide) (by decide) rfl (by decide) ?_
        refine zr_aload_n C0 dL_law_1613 rfl 1 rfl ?_
        refine zr_aload_n C0 dL_law_1614 rfl 0 rfl ?_
        refine zr_iload C0 dL_law_1615 4 rfl ?_
        refine zr_iconst C0 (v := 1) dL_law_1617 (by decide) ?_
        refine zr_iadd C0 dL_law_1618 ?_
        obtain ⟨x521, e522, hf⟩ := zbind hf
        refine zr_iald C0 dL_law_1619 e522 ?_
        refine zr_aload_n C0 dL_law_1620 rfl 3 rfl ?_
        obtain ⟨x525, h523, e524, hf⟩ := zbind2 hf
        refine zr_callSX_r C0 cv_X0_276 (m_X0_planOf C0.2.2.2.2.2.2.1 e524) (by decide) (by decide) rfl rfl (Nat.le_of_ble_eq_true rfl) dL_law_1621 rfl ?_
        refine zr_istore (i := 5) (lv' := [(5, .int x525), (0, .ref p0), (1, .ref p1), (2, .ref p2), (3, .ref p3), (4, .int p4)]) C0 dL_law_1624 (by decide) (by first | rfl | simp [zst1, zst2, zcat_rf]) ?_
        refine zr_aload_n C0 dL_law_1626 rfl 3 rfl ?_
        refine zr_aload_n C0 dL_law_1627 rfl 1 rfl ?_
        refine zr_iload C0 dL_law_1628 5 rfl ?_
        refine zr_iconst C0 (v := 1) dL_law_1630 (by decide) ?_
        refine zr_iadd C0 dL_law_1631 ?_
        obtain ⟨x526, e527, hf⟩ := zbind hf
        refine zr_iald C0 dL_law_1632 e527 ?_
        obtain ⟨_, e528, hf⟩ := zbind hf
        obtain ⟨x531, h529, e530, hf⟩ := zbind2 hf
        refine zr_callV_r C0 cv_X0_278_X6 rfl (zcko e528) (m_X6_planOf C0.2.2.2.2.2.2.1 e530) (by decide) (by decide) rfl rfl (Nat.le_of_ble_eq_true rfl) dL_law_1633 rfl ?_
        refine zr_istore (i := 6) (lv' := [(6, .int x531), (5, .int x525), (0, .ref p0), (1, .ref p1), (2, .ref p2), (3, .ref p3), (4, .int p4)]) C0 dL_law_1636 (by decide) (by first | rfl | simp [zst1, zst2, zcat_rf]) ?_
        refine zr_aload_n C0 dL_law_1638 rfl 4 rfl ?_
        obtain ⟨_, e532, hf⟩ := zbind hf
        obtain ⟨x535, h533, e534, hf⟩ := zbind2 hf
        refine zr_callV_r C0 cv_X0_214_X6 rfl (zcko e532) (m_X6_thrown C0.2.2.2.2.2.2.1 e534) (by decide) (by decide) rfl rfl (Nat.le_of_ble_eq_true rfl) dL_law_1639 rfl ?_
        refine zr_iload C0 dL_law_1642 1 rfl ?_
        refine zr_icmp_eq C0 (tgt := 1649) dL_law_1644 (by decide) (fun c536 => ?_) (fun c536 => ?_)
        · have hf := zif_t c536 hf
          refine zr_iload C0 dL_law_1649 1 rfl ?_
          refine zr_if_ne C0 (tgt := 1666) dL_law_1651 (by decide) (fun c537 => ?_) (fun c537 => ?_)
          · have hf := zif_f c537 hf
            refine zr_sub [2, 3, 4, 5, 6] rfl ?_
            exact w_L_law_b1666 C0 ih hf
          · have hf := zif_t c537 hf
            refine zr_aload_n C0 dL_law_1654 rfl 5 rfl ?_
            refine zr_iconst C0 (v := 0) dL_law_1655 (by decide) ?_
            obtain ⟨x538, e539, hf⟩ := zbind hf
            refine zr_lald C0 dL_law_1656 e539 ?_
            refine zr_iload C0 dL_law_1657 0 rfl ?_
            refine zr_i2l C0 dL_law_1659 ?_
            refine zr_lcmp C0 dL_law_1660 ?_
            refine zr_if_eq C0 (tgt := 1666) dL_law_1661 (by decide) (fun c540 => ?_) (fun c540 => ?_)
            · have hf := zif_t (zl_eq.mp c540) hf
              refine zr_sub [2, 3, 4, 5, 6] rfl ?_
              exact w_L_law_b1666 C0 ih hf
            · have hf := zif_f (zl_eqn.mp c540) hf
              refine zr_iconst C0 (v := 0) dL_law_1664 (by decide) ?_
              refine zretW hf ?_
              exact zr_iret C0 (ty := .boolean) rfl (by decide) dL_law_1665 rfl
        · have hf := zif_f c536 hf
          refine zr_iconst C0 (v := 0) dL_law_1647 (by decide) ?_
          refine zretW hf ?_
          exact zr_iret C0 (ty := .boolean) rfl (by decide) dL_law_1648 rfl
      have hf := zif_f c520 hf
      rcases Decidable.em ((x4 &&& (63 : Int32)) = 26) with c541 | c541
      · have hf := zif_t c541 hf
        refine zr_tableIn C0 (v := 26) (tgt := 1669) dL_law_40 c541 (by decide) (by decide) rfl (by decide) ?_
        refine zr_aload_n C0 dL_law_1669 rfl 1 rfl ?_
        refine zr_aload_n C0 dL_law_1670 rfl 0 rfl ?_
        refine zr_iload C0 dL_law_1671 4 rfl ?_
        refine zr_iconst C0 (v := 1) dL_law_1673 (by decide) ?_
        refine zr_iadd C0 dL_law_1674 ?_
        obtain ⟨x542, e543, hf⟩ := zbind hf
        refine zr_iald C0 dL_law_1675 e543 ?_
        refine zr_aload_n C0 dL_law_1676 rfl 0 rfl ?_
        refine zr_iload C0 dL_law_1677 4 rfl ?_
        refine zr_iconst C0 (v := 2) dL_law_1679 (by decide) ?_
        refine zr_iadd C0 dL_law_1680 ?_
        obtain ⟨x544, e545, hf⟩ := zbind hf
        refine zr_iald C0 dL_law_1681 e545 ?_
        refine zr_aload_n C0 dL_law_1682 rfl 3 rfl ?_
        obtain ⟨x548, h546, e547, hf⟩ := zbind2 hf
        refine zr_callSX_r C0 cv_X0_279 (m_X0_setPlan C0.2.2.2.2.2.2.1 e547) (by decide) (by decide) rfl rfl (Nat.le_of_ble_eq_true rfl) dL_law_1683 rfl ?_
        refine zr_istore (i := 5) (lv' := [(5, .int x548), (0, .ref p0), (1, .ref p1), (2, .ref p2), (3, .ref p3), (4, .int p4)]) C0 dL_law_1686 (by decide) (by first | rfl | simp [zst1, zst2, zcat_rf]) ?_
        refine zr_aload_n C0 dL_law_1688 rfl 3 rfl ?_
        refine zr_aload_n C0 dL_law_1689 rfl 1 rfl ?_
        refine zr_iload C0 dL_law_1690 5 rfl ?_
        refine zr_iconst C0 (v := 1) dL_law_1692 (by decide) ?_
        refine zr_iadd C0 dL_law_1693 ?_
        obtain ⟨x549, e550, hf⟩ := zbind hf
        refine zr_iald C0 dL_law_1694 e550 ?_
        refine zr_aload_n C0 dL_law_1695 rfl 1 rfl ?_
        refine zr_iload C0 dL_law_1696 5 rfl ?_
        refine zr_iconst C0 (v := 2) dL_law_1698 (by decide) ?_
        refine zr_iadd C0 dL_law_1699 ?_
        obtain ⟨x551, e552, hf⟩ := zbind hf
        refine zr_iald C0 dL_law_1700 e552 ?_
        obtain ⟨_, e553, hf⟩ := zbind hf
        obtain ⟨x556, h554, e555, hf⟩ := zbind2 hf
        refine zr_callV_r C0 cv_X0_281_X6 rfl (zcko e553) (m_X6_setPlan C0.2.2.2.2.2.2.1 e555) (by decide) (by decide) rfl rfl (Nat.le_of_ble_eq_true rfl) dL_law_1701 rfl ?_
        refine zr_istore (i := 6) (lv' := [(6, .int x556), (5, .int x548), (0, .ref p0), (1, .ref p1), (2, .ref p2), (3, .ref p3), (4, .int p4)]) C0 dL_law_1704 (by decide) (by first | rfl | simp [zst1, zst2, zcat_rf]) ?_
        refine zr_aload_n C0 dL_law_1706 rfl 4 rfl ?_
        obtain ⟨_, e557, hf⟩ := zbind hf
        obtain ⟨x560, h558, e559, hf⟩ := zbind2 hf
        refine zr_callV_r C0 cv_X0_214_X6 rfl (zcko e557) (m_X6_thrown C0.2.2.2.2.2.2.1 e559) (by decide) (by decide) rfl rfl (Nat.le_of_ble_eq_true rfl) dL_law_1707 rfl ?_
        refine zr_iload C0 dL_law_1710 1 rfl ?_
        refine zr_icmp_eq C0 (tgt := 1717) dL_law_1712 (by decide) (fun c561 => ?_) (fun c561 => ?_)
        · have hf := zif_t c561 hf
          refine zr_iload C0 dL_law_1717 1 rfl ?_
          refine zr_if_ne C0 (tgt := 1734) dL_law_1719 (by decide) (fun c562 => ?_) (fun c562 => ?_)
          · have hf := zif_f c562 hf
            refine zr_sub [2, 3, 4, 5, 6] rfl ?_
            exact w_L_law_b1734 C0 ih hf
          · have hf := zif_t c562 hf
            refine zr_aload_n C0 dL_law_1722 rfl 5 rfl ?_
            refine zr_iconst C0 (v := 0) dL_law_1723 (by decide) ?_
            obtain ⟨x563, e564, hf⟩ := zbind hf
            refine zr_lald C0 dL_law_1724 e564 ?_
            refine zr_iload C0 dL_law_1725 0 rfl ?_
            refine zr_i2l C0 dL_law_1727 ?_
            refine zr_lcmp C0 dL_law_1728 ?_
            refine zr_if_eq C0 (tgt := 1734) dL_law_1729 (by decide) (fun c565 => ?_) (fun c565 => ?_)
            · have hf := zif_t (zl_eq.mp c565) hf
              refine zr_sub [2, 3, 4, 5, 6] rfl ?_
              exact w_L_law_b1734 C0 ih hf
            · have hf := zif_f (zl_eqn.mp c565) hf
              refine zr_iconst C0 (v := 0) dL_law_1732 (by decide) ?_
              refine zretW hf ?_
              exact zr_iret C0 (ty := .boolean) rfl (by decide) dL_law_1733 rfl
        · have hf := zif_f c561 hf
          refine zr_iconst C0 (v := 0) dL_law_1715 (by decide) ?_
          refine zretW hf ?_
          exact zr_iret C0 (ty := .boolean) rfl (by decide) dL_law_1716 rfl
      have hf := zif_f c541 hf
      rcases Decidable.em ((x4 &&& (63 : Int32)) = 27) with c566 | c566
      · have hf := zif_t c566 hf
        refine zr_tableIn C0 (v := 27) (tgt := 1737) dL_law_40 c566 (by decide) (by decide) rfl (by decide) ?_
        refine zr_aload_n C0 dL_law_1737 rfl 1 rfl ?_
        refine zr_aload_n C0 dL_law_1738 rfl 0 rfl ?_
        refine zr_iload C0 dL_law_1739 4 rfl ?_
        refine zr_iconst C0 (v := 1) dL_law_1741 (by decide) ?_
        refine zr_iadd C0 dL_law_1742 ?_
        obtain ⟨x567, e568, hf⟩ := zbind hf
        refine zr_iald C0 dL_law_1743 e568 ?_
        refine zr_aload_n C0 dL_law_1744 rfl 3 rfl ?_
        obtain ⟨x571, h569, e570, hf⟩ := zbind2 hf
        refine zr_callSX_r C0 cv_X0_282 (m_X0_cheapestPlan C0.2.2.2.2.2.2.1 e570) (by decide) (by decide) rfl rfl (Nat.le_of_ble_eq_true rfl) dL_law_1745 rfl ?_
        refine zr_istore (i := 5) (lv' := [(5, .int x571), (0, .ref p0), (1, .ref p1), (2, .ref p2), (3, .ref p3), (4, .int p4)]) C0 dL_law_1748 (by decide) (by first | rfl | simp [zst1, zst2, zcat_rf]) ?_
        refine zr_aload_n C0 dL_law_1750 rfl 3 rfl ?_
        refine zr_aload_n C0 dL_law_1751 rfl 1 rfl ?_
        refine zr_iload C0 dL_law_1752 5 rfl ?_
        refine zr_iconst C0 (v := 1) dL_law_1754 (by decide) ?_
        refine zr_iadd C0 dL_law_1755 ?_
        obtain ⟨x572, e573, hf⟩ := zbind hf
        refine zr_iald C0 dL_law_1756 e573 ?_
        obtain ⟨_, e574, hf⟩ := zbind hf
        obtain ⟨x577, h575, e576, hf⟩ := zbind2 hf
        refine zr_callV_r C0 cv_X0_284_X6 rfl (zcko e574) (m_X6_cheapestPlan C0.2.2.2.2.2.2.1 e576) (by decide) (by decide) rfl rfl (Nat.le_of_ble_eq_true rfl) dL_law_1757 rfl ?_
        refine zr_istore (i := 6) (lv' := [(6, .int x577), (5, .int x571), (0, .ref p0), (1, .ref p1), (2, .ref p2), (3, .ref p3), (4, .int p4)]) C0 dL_law_1760 (by decide) (by first | rfl | simp [zst1, zst2, zcat_rf]) ?_
        refine zr_aload_n C0 dL_law_1762 rfl 4 rfl ?_
        obtain ⟨_, e578, hf⟩ := zbind hf
        obtain ⟨x581, h579, e580, hf⟩ := zbind2 hf
        refine zr_callV_r C0 cv_X0_214_X6 rfl (zcko e578) (m_X6_thrown C0.2.2.2.2.2.2.1 e580) (by decide) (by decide) rfl rfl (Nat.le_of_ble_eq_true rfl) dL_law_1763 rfl ?_
        refine zr_iload C0 dL_law_1766 1 rfl ?_
        refine zr_icmp_eq C0 (tgt := 1773) dL_law_1768 (by decide) (fun c582 => ?_) (fun c582 => ?_)
        · have hf := zif_t c582 hf
          refine zr_iload C0 dL_law_1773 1 rfl ?_
          refine zr_if_ne C0 (tgt := 1790) dL_law_1775 (by decide) (fun c583 => ?_) (fun c583 => ?_)
          · have hf := zif_f c583 hf
            refine zr_sub [2, 3, 4, 5, 6] rfl ?_
            exact w_L_law_b1790 C0 ih hf
          · have hf := zif_t c583 hf
            refine zr_aload_n C0 dL_law_1778 rfl 5 rfl ?_
            refine zr_iconst C0 (v := 0) dL_law_1779 (by decide) ?_
            obtain ⟨x584, e585, hf⟩ := zbind hf
            refine zr_lald C0 dL_law_1780 e585 ?_
            refine zr_iload C0 dL_law_1781 0 rfl ?_
            refine zr_i2l C0 dL_law_1783 ?_
            refine zr_lcmp C0 dL_law_1784 ?_
            refine zr_if_eq C0 (tgt := 1790) dL_law_1785 (by decide) (fun c586 => ?_) (fun c586 => ?_)
            · have hf := zif_t (zl_eq.mp c586) hf
              refine zr_sub [2, 3, 4, 5, 6] rfl ?_
              exact w_L_law_b1790 C0 ih hf
            · have hf := zif_f (zl_eqn.mp c586) hf
              refine zr_iconst C0 (v := 0) dL_law_1788 (by decide) ?_
              refine zretW hf ?_
              exact zr_iret C0 (ty := .boolean) rfl (by decide) dL_law_1789 rfl
        · have hf := zif_f c582 hf
          refine zr_iconst C0 (v := 0) dL_law_1771 (by decide) ?_
          refine zretW hf ?_
          exact zr_iret C0 (ty := .boolean) rfl (by decide) dL_law_1772 rfl
      have hf := zif_f c566 hf
      rcases Decidable.em ((x4 &&& (63 : Int32)) = 28) with c587 | c587
      · have hf := zif_t c587 hf
        refine zr_tableIn C0 (v := 28) (tgt := 1793) dL_law_40 c587 (by decide) (by decide) rfl (by decide) ?_
        refine zr_aload_n C0 dL_law_1793 rfl 1 rfl ?_
        refine zr_aload_n C0 dL_law_1794 rfl 0 rfl ?_
        refine zr_iload C0 dL_law_1795 4 rfl ?_
        refine zr_iconst C0 (v := 1) dL_law_1797 (by decide) ?_
        refine zr_iadd C0 dL_law_1798 ?_
        obtain ⟨x588, e589, hf⟩ := zbind hf
        refine zr_iald C0 dL_law_1799 e589 ?_
        refine zr_aload_n C0 dL_law_1800 rfl 0 rfl ?_
        refine zr_iload C0 dL_law_1801 4 rfl ?_
        refine zr_iconst C0 (v := 2) dL_law_1803 (by decide) ?_
        refine zr_iadd C0 dL_law_1804 ?_
        obtain ⟨x590, e591, hf⟩ := zbind hf
        refine zr_iald C0 dL_law_1805 e591 ?_
        refine zr_i2l C0 dL_law_1806 ?_
        refine zr_bipush C0 (v := 32) dL_law_1807 (by decide) ?_
        refine zr_lshl C0 dL_law_1809 ?_
        refine zr_aload_n C0 dL_law_1810 rfl 0 rfl ?_
        refine zr_iload C0 dL_law_1811 4 rfl ?_
        refine zr_iconst C0 (v := 3) dL_law_1813 (by decide) ?_
        refine zr_iadd C0 dL_law_1814 ?_
        obtain ⟨x592, e593, hf⟩ := zbind hf
        refine zr_iald C0 dL_law_1815 e593 ?_
        refine zr_i2l C0 dL_law_1816 ?_
        refine zr_ldc2 C0 (v := 4294967295) q3235 dL_law_1817 ?_
        refine zr_land C0 dL_law_1820 ?_
        refine zr_lor C0 dL_law_1821 ?_
        refine zr_aload_n C0 dL_law_1822 rfl 3 rfl ?_
        obtain ⟨x596, h594, e595, hf⟩ := zbind2 hf
        refine zr_callSX_r C0 cv_X0_285 (m_X0_reportSales C0.2.2.2.2.2.2.1 e595) (by decide) (by decide) rfl rfl (Nat.le_of_ble_eq_true rfl) dL_law_1823 rfl ?_
        refine zr_istore (i := 5) (lv' := [(5, .int x596), (0, .ref p0), (1, .ref p1), (2, .ref p2), (3, .ref p3), (4, .int p4)]) C0 dL_law_1826 (by decide) (by first | rfl | simp [zst1, zst2, zcat_rf]) ?_
        refine zr_aload_n C0 dL_law_1828 rfl 3 rfl ?_
        refine zr_aload_n C0 dL_law_1829 rfl 1 rfl ?_
        refine zr_iload C0 dL_law_1830 5 rfl ?_
        refine zr_iconst C0 (v := 1) dL_law_1832 (by decide) ?_
        refine zr_iadd C0 dL_law_1833 ?_
        obtain ⟨x597, e598, hf⟩ := zbind hf
        refine zr_iald C0 dL_law_1834 e598 ?_
        refine zr_aload_n C0 dL_law_1835 rfl 1 rfl ?_
        refine zr_iload C0 dL_law_1836 5 rfl ?_
        refine zr_iconst C0 (v := 2) dL_law_1838 (by decide) ?_
        refine zr_iadd C0 dL_law_1839 ?_
        obtain ⟨x599, e600, hf⟩ := zbind hf
        refine zr_iald C0 dL_law_1840 e600 ?_
        refine zr_i2l C0 dL_law_1841 ?_
        refine zr_bipush C0 (v := 32) dL_law_1842 (by decide) ?_
        refine zr_lshl C0 dL_law_1844 ?_
        refine zr_aload_n C0 dL_law_1845 rfl 1 rfl ?_
        refine zr_iload C0 dL_law_1846 5 rfl ?_
        refine zr_iconst C0 (v := 3) dL_law_1848 (by decide) ?_
        refine zr_iadd C0 dL_law_1849 ?_
        obtain ⟨x601, e602, hf⟩ := zbind hf
        refine zr_iald C0 dL_law_1850 e602 ?_
        refine zr_i2l C0 dL_law_1851 ?_
        refine zr_ldc2 C0 (v := 4294967295) q3235 dL_law_1852 ?_
        refine zr_land C0 dL_law_1855 ?_
        refine zr_lor C0 dL_law_1856 ?_
        obtain ⟨_, e603, hf⟩ := zbind hf
        obtain ⟨x606, h604, e605, hf⟩ := zbind2 hf
        refine zr_callV_r C0 cv_X0_287_X6 rfl (zcko e603) (m_X6_reportSales C0.2.2.2.2.2.2.1 e605) (by decide) (by decide) rfl rfl (Nat.le_of_ble_eq_true rfl) dL_law_1857 rfl ?_
        refine zr_lstore (i := 6) (lv' := [(6, .long x606), (5, .int x596), (0, .ref p0), (1, .ref p1), (2, .ref p2), (3, .ref p3), (4, .int p4)]) C0 dL_law_1860 (by decide) (by first | rfl | simp [zst1, zst2, zcat_rf]) ?_
        refine zr_aload_n C0 dL_law_1862 rfl 4 rfl ?_
        obtain ⟨_, e607, hf⟩ := zbind hf
        obtain ⟨x610, h608, e609, hf⟩ := zbind2 hf
        refine zr_callV_r C0 cv_X0_214_X6 rfl (zcko e607) (m_X6_thrown C0.2.2.2.2.2.2.1 e609) (by decide) (by decide) rfl rfl (Nat.le_of_ble_eq_true rfl) dL_law_1863 rfl ?_
        refine zr_iload C0 dL_law_1866 1 rfl ?_
        refine zr_icmp_eq C0 (tgt := 1873) dL_law_1868 (by decide) (fun c611 => ?_) (fun c611 => ?_)
        · have hf := zif_t c611 hf
          refine zr_iload C0 dL_law_1873 1 rfl ?_
          refine zr_if_ne C0 (tgt := 1889) dL_law_1875 (by decide) (fun c612 => ?_) (fun c612 => ?_)
          · have hf := zif_f c612 hf
            refine zr_sub [2, 3, 4, 5, 6] rfl ?_
            exact w_L_law_b1889 C0 ih hf
          · have hf := zif_t c612 hf
            refine zr_aload_n C0 dL_law_1878 rfl 5 rfl ?_
            refine zr_iconst C0 (v := 0) dL_law_1879 (by decide) ?_
            obtain ⟨x613, e614, hf⟩ := zbind hf
            refine zr_lald C0 dL_law_1880 e614 ?_
            refine zr_lload C0 dL_law_1881 0 rfl ?_
            refine zr_lcmp C0 dL_law_1883 ?_
            refine zr_if_eq C0 (tgt := 1889) dL_law_1884 (by decide) (fun c615 => ?_) (fun c615 => ?_)
            · have hf := zif_t (zl_eq.mp c615) hf
              refine zr_sub [2, 3, 4, 5, 6] rfl ?_
              exact w_L_law_b1889 C0 ih hf
            · have hf := zif_f (zl_eqn.mp c615) hf
              refine zr_iconst C0 (v := 0) dL_law_1887 (by decide) ?_
              refine zretW hf ?_
              exact zr_iret C0 (ty := .boolean) rfl (by decide) dL_law_1888 rfl
        · have hf := zif_f c611 hf
          refine zr_iconst C0 (v := 0) dL_law_1871 (by decide) ?_
          refine zretW hf ?_
          exact zr_iret C0 (ty := .boolean) rfl (by decide) dL_law_1872 rfl
      have hf := zif_f c587 hf
      rcases Decidable.em ((x4 &&& (63 : Int32)) = 29) with c616 | c616
      · have hf := zif_t c616 hf
        refine zr_tableIn C0 (v := 29) (tgt := 1892) dL_law_40 c616 (by decide) (by decide) rfl (by decide) ?_
        refine zr_aload_n C0 dL_law_1892 rfl 1 rfl ?_
        refine zr_aload_n C0 dL_law_1893 rfl 0 rfl ?_
        refine zr_iload C0 dL_law_1894 4 rfl ?_
        refine zr_iconst C0 (v := 1) dL_law_1896 (by decide) ?_
        refine zr_iadd C0 dL_law_1897 ?_
        obtain ⟨x617, e618, hf⟩ := zbind hf
        refine zr_iald C0 dL_law_1898 e618 ?_
        refine zr_aload_n C0 dL_law_1899 rfl 0 rfl ?_
        refine zr_iload C0 dL_law_1900 4 rfl ?_
        refine zr_iconst C0 (v := 2) dL_law_1902 (by decide) ?_
        refine zr_iadd C0 dL_law_1903 ?_
        obtain ⟨x619, e620, hf⟩ := zbind hf
        refine zr_iald C0 dL_law_1904 e620 ?_
        refine zr_aload_n C0 dL_law_1905 rfl 0 rfl ?_
        refine zr_iload C0 dL_law_1906 4 rfl ?_
        refine zr_iconst C0 (v := 3) dL_law_1908 (by decide) ?_
        refine zr_iadd C0 dL_law_1909 ?_
        obtain ⟨x621, e622, hf⟩ := zbind hf
        refine zr_iald C0 dL_law_1910 e622 ?_
        refine zr_aload_n C0 dL_law_1911 rfl 0 rfl ?_
        refine zr_iload C0 dL_law_1912 4 rfl ?_
        refine zr_iconst C0 (v := 4) dL_law_1914 (by decide) ?_
        refine zr_iadd C0 dL_law_1915 ?_
        obtain ⟨x623, e624, hf⟩ := zbind hf
        refine zr_iald C0 dL_law_1916 e624 ?_
        refine zr_i2l C0 dL_law_1917 ?_
        refine zr_bipush C0 (v := 32) dL_law_1918 (by decide) ?_
        refine zr_lshl C0 dL_law_1920 ?_
        refine zr_aload_n C0 dL_law_1921 rfl 0 rfl ?_
        refine zr_iload C0 dL_law_1922 4 rfl ?_
        refine zr_iconst C0 (v := 5) dL_law_1924 (by decide) ?_
        refine zr_iadd C0 dL_law_1925 ?_
        obtain ⟨x625, e626, hf⟩ := zbind hf
        refine zr_iald C0 dL_law_1926 e626 ?_
        refine zr_i2l C0 dL_law_1927 ?_
        refine zr_ldc2 C0 (v := 4294967295) q3235 dL_law_1928 ?_
        refine zr_land C0 dL_law_1931 ?_
        refine zr_lor C0 dL_law_1932 ?_
        refine zr_aload_n C0 dL_law_1933 rfl 3 rfl ?_
        obtain ⟨x629, h627, e628, hf⟩ := zbind2 hf
        refine zr_callSX_r C0 cv_X0_288 (m_X0_deliver C0.2.2.2.2.2.2.1 e628) (by decide) (by decide) rfl rfl (Nat.le_of_ble_eq_true rfl) dL_law_1934 rfl ?_
        refine zr_istore (i := 5) (lv' := [(5, .int x629), (0, .ref p0), (1, .ref p1), (2, .ref p2), (3, .ref p3), (4, .int p4)]) C0 dL_law_1937 (by decide) (by first | rfl | simp [zst1, zst2, zcat_rf]) ?_
        refine zr_aload_n C0 dL_law_1939 rfl 3 rfl ?_
        refine zr_aload_n C0 dL_law_1940 rfl 1 rfl ?_
        refine zr_iload C0 dL_law_1941 5 rfl ?_
        refine zr_iconst C0 (v := 1) dL_law_1943 (by decide) ?_
        refine zr_iadd C0 dL_law_1944 ?_
        obtain ⟨x630, e631, hf⟩ := zbind hf
        refine zr_iald C0 dL_law_1945 e631 ?_
        refine zr_aload_n C0 dL_law_1946 rfl 1 rfl ?_
        refine zr_iload C0 dL_law_1947 5 rfl ?_
        refine zr_iconst C0 (v := 2) dL_law_1949 (by decide) ?_
        refine zr_iadd C0 dL_law_1950 ?_
        obtain ⟨x632, e633, hf⟩ := zbind hf
        refine zr_iald C0 dL_law_1951 e633 ?_
        refine zr_aload_n C0 dL_law_1952 rfl 1 rfl ?_
        refine zr_iload C0 dL_law_1953 5 rfl ?_
        refine zr_iconst C0 (v := 3) dL_law_1955 (by decide) ?_
        refine zr_iadd C0 dL_law_1956 ?_
        obtain ⟨x634, e635, hf⟩ := zbind hf
        refine zr_iald C0 dL_law_1957 e635 ?_
        refine zr_aload_n C0 dL_law_1958 rfl 1 rfl ?_
        refine zr_iload C0 dL_law_1959 5 rfl ?_
        refine zr_iconst C0 (v := 4) dL_law_1961 (by decide) ?_
        refine zr_iadd C0 dL_law_1962 ?_
        obtain ⟨x636, e637, hf⟩ := zbind hf
        refine zr_iald C0 dL_law_1963 e637 ?_
        refine zr_i2l C0 dL_law_1964 ?_
        refine zr_bipush C0 (v := 32) dL_law_1965 (by decide) ?_
        refine zr_lshl C0 dL_law_1967 ?_
        refine zr_aload_n C0 dL_law_1968 rfl 1 rfl ?_
        refine zr_iload C0 dL_law_1969 5 rfl ?_
        refine zr_iconst C0 (v := 5) dL_law_1971 (by decide) ?_
        refine zr_iadd C0 dL_law_1972 ?_
        obtain ⟨x638, e639, hf⟩ := zbind hf
        refine zr_iald C0 dL_law_1973 e639 ?_
        refine zr_i2l C0 dL_law_1974 ?_
        refine zr_ldc2 C0 (v := 4294967295) q3235 dL_law_1975 ?_
        refine zr_land C0 dL_law_1978 ?_
        refine zr_lor C0 dL_law_1979 ?_
        obtain ⟨_, e640, hf⟩ := zbind hf
        obtain ⟨x643, h641, e642, hf⟩ := zbind2 hf
        refine zr_callV_r C0 cv_X0_291_X6 rfl (zcko e640) (m_X6_deliver C0.2.2.2.2.2.2.1 e642) (by decide) (by decide) rfl rfl (Nat.le_of_ble_eq_true rfl) dL_law_1980 rfl ?_
        refine zr_lstore (i := 6) (lv' := [(6, .long x643), (5, .int x629), (0, .ref p0), (1, .ref p1), (2, .ref p2), (3, .ref p3), (4, .int p4)]) C0 dL_law_1983 (by decide) (by first | rfl | simp [zst1, zst2, zcat_rf]) ?_
        refine zr_aload_n C0 dL_law_1985 rfl 4 rfl ?_
        obtain ⟨_, e644, hf⟩ := zbind hf
        obtain ⟨x647, h645, e646, hf⟩ := zbind2 hf
        refine zr_callV_r C0 cv_X0_214_X6 rfl (zcko e644) (m_X6_thrown C0.2.2.2.2.2.2.1 e646) (by decide) (by decide) rfl rfl (Nat.le_of_ble_eq_true rfl) dL_law_1986 rfl ?_
        refine zr_iload C0 dL_law_1989 1 rfl ?_
        refine zr_icmp_eq C0 (tgt := 1996) dL_law_1991 (by decide) (fun c648 => ?_) (fun c648 => ?_)
        · have hf := zif_t c648 hf
          refine zr_iload C0 dL_law_1996 1 rfl ?_
          refine zr_if_ne C0 (tgt := 2012) dL_law_1998 (by decide) (fun c649 => ?_) (fun c649 => ?_)
          · have hf := zif_f c649 hf
            refine zr_sub [2, 3, 4, 5, 6] rfl ?_
            exact w_L_law_b2012 C0 ih hf
          · have hf := zif_t c649 hf
            refine zr_aload_n C0 dL_law_2001 rfl 5 rfl ?_
            refine zr_iconst C0 (v := 0) dL_law_2002 (by decide) ?_
            obtain ⟨x650, e651, hf⟩ := zbind hf
            refine zr_lald C0 dL_law_2003 e651 ?_
            refine zr_lload C0 dL_law_2004 0 rfl ?_
            refine zr_lcmp C0 dL_law_2006 ?_
            refine zr_if_eq C0 (tgt := 2012) dL_law_2007 (by decide) (fun c652 => ?_) (fun c652 => ?_)
            · have hf := zif_t (zl_eq.mp c652) hf
              refine zr_sub [2, 3, 4, 5, 6] rfl ?_
              exact w_L_law_b2012 C0 ih hf
            · have hf := zif_f (zl_eqn.mp c652) hf
              refine zr_iconst C0 (v := 0) dL_law_2010 (by decide) ?_
              refine zretW hf ?_
              exact zr_iret C0 (ty := .boolean) rfl (by decide) dL_law_2011 rfl
        · have hf := zif_f c648 hf
          refine zr_iconst C0 (v := 0) dL_law_1994 (by decide) ?_
          refine zretW hf ?_
          exact zr_iret C0 (ty := .boolean) rfl (by decide) dL_law_1995 rfl
      have hf := zif_f c616 hf
      rcases Decidable.em ((x4 &&& (63 : Int32)) = 30) with c653 | c653
      · have hf := zif_t c653 hf
        refine zr_tableIn C0 (v := 30) (tgt := 2015) dL_law_40 c653 (by decide) (by decide) rfl (by decide) ?_
        refine zr_aload_n C0 dL_law_2015 rfl 1 rfl ?_
        refine zr_aload_n C0 dL_law_2016 rfl 0 rfl ?_
        refine zr_iload C0 dL_law_2017 4 rfl ?_
        refine zr_iconst C0 (v := 1) dL_law_2019 (by decide) ?_
        refine zr_iadd C0 dL_law_2020 ?_
        obtain ⟨x654, e655, hf⟩ := zbind hf
        refine zr_iald C0 dL_law_2021 e655 ?_
        refine zr_aload_n C0 dL_law_2022 rfl 3 rfl ?_
        obtain ⟨x658, h656, e657, hf⟩ := zbind2 hf
        refine zr_callSX_r C0 cv_X0_292 (m_X0_sales C0.2.2.2.2.2.2.1 e657) (by decide) (by decide) rfl rfl (Nat.le_of_ble_eq_true rfl) dL_law_2023 rfl ?_
        refine zr_istore (i := 5) (lv' := [(5, .int x658), (0, .ref p0), (1, .ref p1), (2, .ref p2), (3, .ref p3), (4, .int p4)]) C0 dL_law_2026 (by decide) (by first | rfl | simp [zst1, zst2, zcat_rf]) ?_
        refine zr_aload_n C0 dL_law_2028 rfl 3 rfl ?_
        refine zr_aload_n C0 dL_law_2029 rfl 1 rfl ?_
        refine zr_iload C0 dL_law_2030 5 rfl ?_
        refine zr_iconst C0 (v := 1) dL_law_2032 (by decide) ?_
        refine zr_iadd C0 dL_law_2033 ?_
        obtain ⟨x659, e660, hf⟩ := zbind hf
        refine zr_iald C0 dL_law_2034 e660 ?_
        obtain ⟨_, e661, hf⟩ := zbind hf
        obtain ⟨x664, h662, e663, hf⟩ := zbind2 hf
        refine zr_callV_r C0 cv_X0_294_X6 rfl (zcko e661) (m_X6_sales C0.2.2.2.2.2.2.1 e663) (by decide) (by decide) rfl rfl (Nat.le_of_ble_eq_true rfl) dL_law_2035 rfl ?_
        refine zr_lstore (i := 6) (lv' := [(6, .long x664), (5, .int x658), (0, .ref p0), (1, .ref p1), (2, .ref p2), (3, .ref p3), (4, .int p4)]) C0 dL_law_2038 (by decide) (by first | rfl | simp [zst1, zst2, zcat_rf]) ?_
        refine zr_aload_n C0 dL_law_2040 rfl 4 rfl ?_
        obtain ⟨_, e665, hf⟩ := zbind hf
        obtain ⟨x668, h666, e667, hf⟩ := zbind2 hf
        refine zr_callV_r C0 cv_X0_214_X6 rfl (zcko e665) (m_X6_thrown C0.2.2.2.2.2.2.1 e667) (by decide) (by decide) rfl rfl (Nat.le_of_ble_eq_true rfl) dL_law_2041 rfl ?_
        refine zr_iload C0 dL_law_2044 1 rfl ?_
        refine zr_icmp_eq C0 (tgt := 2051) dL_law_2046 (by decide) (fun c669 => ?_) (fun c669 => ?_)
        · have hf := zif_t c669 hf
          refine zr_iload C0 dL_law_2051 1 rfl ?_
          refine zr_if_ne C0 (tgt := 2067) dL_law_2053 (by decide) (fun c670 => ?_) (fun c670 => ?_)
          · have hf := zif_f c670 hf
            refine zr_sub [2, 3, 4, 5, 6] rfl ?_
            exact w_L_law_b2067 C0 ih hf
          · have hf := zif_t c670 hf
            refine zr_aload_n C0 dL_law_2056 rfl 5 rfl ?_
            refine zr_iconst C0 (v := 0) dL_law_2057 (by decide) ?_
            obtain ⟨x671, e672, hf⟩ := zbind hf
            refine zr_lald C0 dL_law_2058 e672 ?_
            refine zr_lload C0 dL_law_2059 0 rfl ?_
            refine zr_lcmp C0 dL_law_2061 ?_
            refine zr_if_eq C0 (tgt := 2067) dL_law_2062 (by decide) (fun c673 => ?_) (fun c673 => ?_)
            · have hf := zif_t (zl_eq.mp c673) hf
              refine zr_sub [2, 3, 4, 5, 6] rfl ?_
              exact w_L_law_b2067 C0 ih hf
            · have hf := zif_f (zl_eqn.mp c673) hf
              refine zr_iconst C0 (v := 0) dL_law_2065 (by decide) ?_
              refine zretW hf ?_
              exact zr_iret C0 (ty := .boolean) rfl (by decide) dL_law_2066 rfl
        · have hf := zif_f c669 hf
          refine zr_iconst C0 (v := 0) dL_law_2049 (by decide) ?_
          refine zretW hf ?_
          exact zr_iret C0 (ty := .boolean) rfl (by decide) dL_law_2050 rfl
      have hf := zif_f c653 hf
      rcases Decidable.em ((x4 &&& (63 : Int32)) = 31) with c674 | c674
      · have hf := zif_t c674 hf
        refine zr_tableIn C0 (v := 31) (tgt := 2070) dL_law_40 c674 (by decide) (by decide) rfl (by decide) ?_
        refine zr_aload_n C0 dL_law_2070 rfl 1 rfl ?_
        refine zr_aload_n C0 dL_law_2071 rfl 0 rfl ?_
        refine zr_iload C0 dL_law_2072 4 rfl ?_
        refine zr_iconst C0 (v := 1) dL_law_2074 (by decide) ?_
        refine zr_iadd C0 dL_law_2075 ?_
        obtain ⟨x675, e676, hf⟩ := zbind hf
        refine zr_iald C0 dL_law_2076 e676 ?_
        refine zr_aload_n C0 dL_law_2077 rfl 0 rfl ?_
        refine zr_iload C0 dL_law_2078 4 rfl ?_
        refine zr_iconst C0 (v := 2) dL_law_2080 (by decide) ?_
        refine zr_iadd C0 dL_law_2081 ?_
        obtain ⟨x677, e678, hf⟩ := zbind hf
        refine zr_iald C0 dL_law_2082 e678 ?_
        refine zr_aload_n C0 dL_law_2083 rfl 3 rfl ?_
        obtain ⟨x681, h679, e680, hf⟩ := zbind2 hf
        refine zr_callSX_r C0 cv_X0_295 (m_X0_salesOf C0.2.2.2.2.2.2.1 e680) (by decide) (by decide) rfl rfl (Nat.le_of_ble_eq_true rfl) dL_law_2084 rfl ?_
        refine zr_istore (i := 5) (lv' := [(5, .int x681), (0, .ref p0), (1, .ref p1), (2, .ref p2), (3, .ref p3), (4, .int p4)]) C0 dL_law_2087 (by decide) (by first | rfl | simp [zst1, zst2, zcat_rf]) ?_
        refine zr_aload_n C0 dL_law_2089 rfl 3 rfl ?_
        refine zr_aload_n C0 dL_law_2090 rfl 1 rfl ?_
        refine zr_iload C0 dL_law_2091 5 rfl ?_
        refine zr_iconst C0 (v := 1) dL_law_2093 (by decide) ?_
        refine zr_iadd C0 dL_law_2094 ?_
        obtain ⟨x682, e683, hf⟩ := zbind hf
        refine zr_iald C0 dL_law_2095 e683 ?_
        refine zr_aload_n C0 dL_law_2096 rfl 1 rfl ?_
        refine zr_iload C0 dL_law_2097 5 rfl ?_
        refine zr_iconst C0 (v := 2) dL_law_2099 (by decide) ?_
        refine zr_iadd C0 dL_law_2100 ?_
        obtain ⟨x684, e685, hf⟩ := zbind hf
        refine zr_iald C0 dL_law_2101 e685 ?_
        obtain ⟨_, e686, hf⟩ := zbind hf
        obtain ⟨x689, h687, e688, hf⟩ := zbind2 hf
        refine zr_callV_r C0 cv_X0_297_X6 rfl (zcko e686) (m_X6_salesOf C0.2.2.2.2.2.2.1 e688) (by decide) (by decide) rfl rfl (Nat.le_of_ble_eq_true rfl) dL_law_2102 rfl ?_
        refine zr_lstore (i := 6) (lv' := [(6, .long x689), (5, .int x681), (0, .ref p0), (1, .ref p1), (2, .ref p2), (3, .ref p3), (4, .int p4)]) C0 dL_law_2105 (by decide) (by first | rfl | simp [zst1, zst2, zcat_rf]) ?_
        refine zr_aload_n C0 dL_law_2107 rfl 4 rfl ?_
        obtain ⟨_, e690, hf⟩ := zbind hf
        obtain ⟨x693, h691, e692, hf⟩ := zbind2 hf
        refine zr_callV_r C0 cv_X0_214_X6 rfl (zcko e690) (m_X6_thrown C0.2.2.2.2.2.2.1 e692) (by decide) (by decide) rfl rfl (Nat.le_of_ble_eq_true rfl) dL_law_2108 rfl ?_
        refine zr_iload C0 dL_law_2111 1 rfl ?_
        refine zr_icmp_eq C0 (tgt := 2118) dL_law_2113 (by decide) (fun c694 => ?_) (fun c694 => ?_)
        · have hf := zif_t c694 hf
          refine zr_iload C0 dL_law_2118 1 rfl ?_
          refine zr_if_ne C0 (tgt := 2134) dL_law_2120 (by decide) (fun c695 => ?_) (fun c695 => ?_)
          · have hf := zif_f c695 hf
            refine zr_sub [2, 3, 4, 5, 6] rfl ?_
            exact w_L_law_b2134 C0 ih hf
          · have hf := zif_t c695 hf
            refine zr_aload_n C0 dL_law_2123 rfl 5 rfl ?_
            refine zr_iconst C0 (v := 0) dL_law_2124 (by decide) ?_
            obtain ⟨x696, e697, hf⟩ := zbind hf
            refine zr_lald C0 dL_law_2125 e697 ?_
            refine zr_lload C0 dL_law_2126 0 rfl ?_
            refine zr_lcmp C0 dL_law_2128 ?_
            refine zr_if_eq C0 (tgt := 2134) dL_law_2129 (by decide) (fun c698 => ?_) (fun c698 => ?_)
            · have hf := zif_t (zl_eq.mp c698) hf
              refine zr_sub [2, 3, 4, 5, 6] rfl ?_
              exact w_L_law_b2134 C0 ih hf
            · have hf := zif_f (zl_eqn.mp c698) hf
              refine zr_iconst C0 (v := 0) dL_law_2132 (by decide) ?_
              refine zretW hf ?_
              exact zr_iret C0 (ty := .boolean) rfl (by decide) dL_law_2133 rfl
        · have hf := zif_f c694 hf
          refine zr_iconst C0 (v := 0) dL_law_2116 (by decide) ?_
          refine zretW hf ?_
          exact zr_iret C0 (ty := .boolean) rfl (by decide) dL_law_2117 rfl
      have hf := zif_f c674 hf
      rcases Decidable.em ((x4 &&& (63 : Int32)) = 32) with c699 | c699
      · have hf := zif_t c699 hf
        refine zr_tableIn C0 (v := 32) (tgt := 2137) dL_law_40 c699 (by decide) (by decide) rfl (by decide) ?_
        refine zr_aload_n C0 dL_law_2137 rfl 1 rfl ?_
        refine zr_aload_n C0 dL_law_2138 rfl 0 rfl ?_
        refine zr_iload C0 dL_law_2139 4 rfl ?_
        refine zr_iconst C0 (v := 1) dL_law_2141 (by decide) ?_
        refine zr_iadd C0 dL_law_2142 ?_
        obtain ⟨x700, e701, hf⟩ := zbind hf
        refine zr_iald C0 dL_law_2143 e701 ?_
        obtain ⟨_, e702, hf⟩ := zbind hf
        obtain ⟨x705, h703, e704, hf⟩ := zbind2 hf
        refine zr_callV_r C0 cv_X0_298_X1 rfl (zcko e702) (m_X1_ranked C0.2.2.2.2.2.2.1 e704) (by decide) (by decide) rfl rfl (Nat.le_of_ble_eq_true rfl) dL_law_2144 rfl ?_
        refine zr_aload_n C0 dL_law_2147 rfl 2 rfl ?_
        refine zr_aload_n C0 dL_law_2148 rfl 0 rfl ?_
        refine zr_iload C0 dL_law_2149 4 rfl ?_
        refine zr_iconst C0 (v := 1) dL_law_2151 (by decide) ?_
        refine zr_iadd C0 dL_law_2152 ?_
        obtain ⟨x706, e707, hf⟩ := zbind hf
        refine zr_iald C0 dL_law_2153 e707 ?_
        obtain ⟨_, e708, hf⟩ := zbind hf
        obtain ⟨x711, h709, e710, hf⟩ := zbind2 hf
        refine zr_callV_r C0 cv_X0_301_X6 rfl (zcko e708) (m_X6_ranked C0.2.2.2.2.2.2.1 e710) (by decide) (by decide) rfl rfl (Nat.le_of_ble_eq_true rfl) dL_law_2154 rfl ?_
        refine zr_icmp_eq C0 (tgt := 4006) dL_law_2157 (by decide) (fun c712 => ?_) (fun c712 => ?_)
        · have hf := zif_t c712 hf
          exact w_L_law_b4006 C0 ih hf
        · have hf := zif_f c712 hf
          refine zr_iconst C0 (v := 0) dL_law_2160 (by decide) ?_
          refine zretW hf ?_
          exact zr_iret C0 (ty := .boolean) rfl (by decide) dL_law_2161 rfl
      have hf := zif_f c699 hf
      rcases Decidable.em ((x4 &&& (63 : Int32)) = 33) with c713 | c713
      · have hf := zif_t c713 hf
        refine zr_tableIn C0 (v := 33) (tgt := 2162) dL_law_40 c713 (by decide) (by decide) rfl (by decide) ?_
        refine zr_aload_n C0 dL_law_2162 rfl 1 rfl ?_
        refine zr_aload_n C0 dL_law_2163 rfl 0 rfl ?_
        refine zr_iload C0 dL_law_2164 4 rfl ?_
        refine zr_iconst C0 (v := 1) dL_law_2166 (by decide) ?_
        refine zr_iadd C0 dL_law_2167 ?_
        obtain ⟨x714, e715, hf⟩ := zbind hf
        refine zr_iald C0 dL_law_2168 e715 ?_
        refine zr_aload_n C0 dL_law_2169 rfl 0 rfl ?_
        refine zr_iload C0 dL_law_2170 4 rfl ?_
        refine zr_iconst C0 (v := 2) dL_law_2172 (by decide) ?_
        refine zr_iadd C0 dL_law_2173 ?_
        obtain ⟨x716, e717, hf⟩ := zbind hf
        refine zr_iald C0 dL_law_2174 e717 ?_
        refine zr_aload_n C0 dL_law_2175 rfl 3 rfl ?_
        obtain ⟨x720, h718, e719, hf⟩ := zbind2 hf
        refine zr_callSX_r C0 cv_X0_302 (m_X0_creditDue C0.2.2.2.2.2.2.1 e719) (by decide) (by decide) rfl rfl (Nat.le_of_ble_eq_true rfl) dL_law_2176 rfl ?_
        refine zr_istore (i := 5) (lv' := [(5, .int x720), (0, .ref p0), (1, .ref p1), (2, .ref p2), (3, .ref p3), (4, .int p4)]) C0 dL_law_2179 (by decide) (by first | rfl | simp [zst1, zst2, zcat_rf]) ?_
        refine zr_aload_n C0 dL_law_2181 rfl 3 rfl ?_
        refine zr_aload_n C0 dL_law_2182 rfl 1 rfl ?_
        refine zr_iload C0 dL_law_2183 5 rfl ?_
        refine zr_iconst C0 (v := 1) dL_law_2185 (by decide) ?_
        refine zr_iadd C0 dL_law_2186 ?_
        obtain ⟨x721, e722, hf⟩ := zbind hf
        refine zr_iald C0 dL_law_2187 e722 ?_
        refine zr_aload_n C0 dL_law_2188 rfl 1 rfl ?_
        refine zr_iload C0 dL_law_2189 5 rfl ?_
        refine zr_iconst C0 (v := 2) dL_law_2191 (by decide) ?_
        refine zr_iadd C0 dL_law_2192 ?_
        obtain ⟨x723, e724, hf⟩ := zbind hf
        refine zr_iald C0 dL_law_2193 e724 ?_
        obtain ⟨_, e725, hf⟩ := zbind hf
        obtain ⟨x728, h726, e727, hf⟩ := zbind2 hf
        refine zr_callV_r C0 cv_X0_304_X6 rfl (zcko e725) (m_X6_creditDue C0.2.2.2.2.2.2.1 e727) (by decide) (by decide) rfl rfl (Nat.le_of_ble_eq_true rfl) dL_law_2194 rfl ?_
        refine zr_lstore (i := 6) (lv' := [(6, .long x728), (5, .int x720), (0, .ref p0), (1, .ref p1), (2, .ref p2), (3, .ref p3), (4, .int p4)]) C0 dL_law_2197 (by decide) (by first | rfl | simp [zst1, zst2, zcat_rf]) ?_
        refine zr_aload_n C0 dL_law_2199 rfl 4 rfl ?_
        obtain ⟨_, e729, hf⟩ := zbind hf
        obtain ⟨x732, h730, e731, hf⟩ := zbind2 hf
        refine zr_callV_r C0 cv_X0_214_X6 rfl (zcko e729) (m_X6_thrown C0.2.2.2.2.2.2.1 e731) (by decide) (by decide) rfl rfl (Nat.le_of_ble_eq_true rfl) dL_law_2200 rfl ?_
        refine zr_iload C0 dL_law_2203 1 rfl ?_
        refine zr_icmp_eq C0 (tgt := 2210) dL_law_2205 (by decide) (fun c733 => ?_) (fun c733 => ?_)
        · have hf := zif_t c733 hf
          refine zr_iload C0 dL_law_2210 1 rfl ?_
          refine zr_if_ne C0 (tgt := 2226) dL_law_2212 (by decide) (fun c734 => ?_) (fun c734 => ?_)
          · have hf := zif_f c734 hf
            refine zr_sub [2, 3, 4, 5, 6] rfl ?_
            exact w_L_law_b2226 C0 ih hf
          · have hf := zif_t c734 hf
            refine zr_aload_n C0 dL_law_2215 rfl 5 rfl ?_
            refine zr_iconst C0 (v := 0) dL_law_2216 (by decide) ?_
            obtain ⟨x735, e736, hf⟩ := zbind hf
            refine zr_lald C0 dL_law_2217 e736 ?_
            refine zr_lload C0 dL_law_2218 0 rfl ?_
            refine zr_lcmp C0 dL_law_2220 ?_
            refine zr_if_eq C0 (tgt := 2226) dL_law_2221 (by decide) (fun c737 => ?_) (fun c737 => ?_)
            · have hf := zif_t (zl_eq.mp c737) hf
              refine zr_sub [2, 3, 4, 5, 6] rfl ?_
              exact w_L_law_b2226 C0 ih hf
            · have hf := zif_f (zl_eqn.mp c737) hf
              refine zr_iconst C0 (v := 0) dL_law_2224 (by decide) ?_
              refine zretW hf ?_
              exact zr_iret C0 (ty := .boolean) rfl (by decide) dL_law_2225 rfl
        · have hf := zif_f c733 hf
          refine zr_iconst C0 (v := 0) dL_law_2208 (by decide) ?_
          refine zretW hf ?_
          exact zr_iret C0 (ty := .boolean) rfl (by decide) dL_law_2209 rfl
      have hf := zif_f c713 hf
      rcases Decidable.em ((x4 &&& (63 : Int32)) = 34) with c738 | c738
      · have hf := zif_t c738 hf
        refine zr_tableIn C0 (v := 34) (tgt := 2229) dL_law_40 c738 (by decide) (by decide) rfl (by decide) ?_
        refine zr_aload_n C0 dL_law_2229 rfl 1 rfl ?_
        refine zr_aload_n C0 dL_law_2230 rfl 3 rfl ?_
        obtain ⟨x741, h739, e740, hf⟩ := zbind2 hf
        refine zr_callSX_r C0 cv_X0_305 (m_X0_closeMonth C0.2.2.2.2.2.2.1 e740) (by decide) (by decide) rfl rfl (Nat.le_of_ble_eq_true rfl) dL_law_2231 rfl ?_
        refine zr_istore (i := 5) (lv' := [(5, .int x741), (0, .ref p0), (1, .ref p1), (2, .ref p2), (3, .ref p3), (4, .int p4)]) C0 dL_law_2234 (by decide) (by first | rfl | simp [zst1, zst2, zcat_rf]) ?_
        refine zr_aload_n C0 dL_law_2236 rfl 3 rfl ?_
        obtain ⟨_, e742, hf⟩ := zbind hf
        obtain ⟨x745, h743, e744, hf⟩ := zbind2 hf
        refine zr_callV_r C0 cv_X0_308_X6 rfl (zcko e742) (m_X6_closeMonth C0.2.2.2.2.2.2.1 e744) (by decide) (by decide) rfl rfl (Nat.le_of_ble_eq_true rfl) dL_law_2237 rfl ?_
        refine zr_istore (i := 6) (lv' := [(6, .int x745), (5, .int x741), (0, .ref p0), (1, .ref p1), (2, .ref p2), (3, .ref p3), (4, .int p4)]) C0 dL_law_2240 (by decide) (by first | rfl | simp [zst1, zst2, zcat_rf]) ?_
        refine zr_aload_n C0 dL_law_2242 rfl 4 rfl ?_
        obtain ⟨_, e746, hf⟩ := zbind hf
        obtain ⟨x749, h747, e748, hf⟩ := zbind2 hf
        refine zr_callV_r C0 cv_X0_214_X6 rfl (zcko e746) (m_X6_thrown C0.2.2.2.2.2.2.1 e748) (by decide) (by decide) rfl rfl (Nat.le_of_ble_eq_true rfl) dL_law_2243 rfl ?_
        refine zr_iload C0 dL_law_2246 1 rfl ?_
        refine zr_icmp_eq C0 (tgt := 2253) dL_law_2248 (by decide) (fun c750 => ?_) (fun c750 => ?_)
        · have hf := zif_t c750 hf
          refine zr_iload C0 dL_law_2253 1 rfl ?_
          refine zr_if_ne C0 (tgt := 2270) dL_law_2255 (by decide) (fun c751 => ?_) (fun c751 => ?_)
          · have hf := zif_f c751 hf
            refine zr_sub [2, 3, 4, 5, 6] rfl ?_
            exact w_L_law_b2270 C0 ih hf
          · have hf := zif_t c751 hf
            refine zr_aload_n C0 dL_law_2258 rfl 5 rfl ?_
            refine zr_iconst C0 (v := 0) dL_law_2259 (by decide) ?_
            obtain ⟨x752, e753, hf⟩ := zbind hf
            refine zr_lald C0 dL_law_2260 e753 ?_
            refine zr_iload C0 dL_law_2261 0 rfl ?_
            refine zr_i2l C0 dL_law_2263 ?_
            refine zr_lcmp C0 dL_law_2264 ?_
            refine zr_if_eq C0 (tgt := 2270) dL_law_2265 (by decide) (fun c754 => ?_) (fun c754 => ?_)
            · have hf := zif_t (zl_eq.mp c754) hf
              refine zr_sub [2, 3, 4, 5, 6] rfl ?_
              exact w_L_law_b2270 C0 ih hf
            · have hf := zif_f (zl_eqn.mp c754) hf
              refine zr_iconst C0 (v := 0) dL_law_2268 (by decide) ?_
              refine zretW hf ?_
              exact zr_iret C0 (ty := .boolean) rfl (by decide) dL_law_2269 rfl
        · have hf := zif_f c750 hf
          refine zr_iconst C0 (v := 0) dL_law_2251 (by decide) ?_
          refine zretW hf ?_
          exact zr_iret C0 (ty := .boolean) rfl (by decide) dL_law_2252 rfl
      have hf := zif_f c738 hf
      rcases Decidable.em ((x4 &&& (63 : Int32)) = 35) with c755 | c755
      · have hf := zif_t c755 hf
        refine zr_tableIn C0 (v := 35) (tgt := 2273) dL_law_40 c755 (by decide) (by decide) rfl (by decide) ?_
        refine zr_aload_n C0 dL_law_2273 rfl 1 rfl ?_
        refine zr_aload_n C0 dL_law_2274 rfl 0 rfl ?_
        refine zr_iload C0 dL_law_2275 4 rfl ?_
        refine zr_iconst C0 (v := 1) dL_law_2277 (by decide) ?_
        refine zr_iadd C0 dL_law_2278 ?_
        obtain ⟨x756, e757, hf⟩ := zbind hf
        refine zr_iald C0 dL_law_2279 e757 ?_
        refine zr_aload_n C0 dL_law_2280 rfl 0 rfl ?_
        refine zr_iload C0 dL_law_2281 4 rfl ?_
        refine zr_iconst C0 (v := 2) dL_law_2283 (by decide) ?_
        refine zr_iadd C0 dL_law_2284 ?_
        obtain ⟨x758, e759, hf⟩ := zbind hf
        refine zr_iald C0 dL_law_2285 e759 ?_
        refine zr_aload_n C0 dL_law_2286 rfl 0 rfl ?_
        refine zr_iload C0 dL_law_2287 4 rfl ?_
        refine zr_iconst C0 (v := 3) dL_law_2289 (by decide) ?_
        refine zr_iadd C0 dL_law_2290 ?_
        obtain ⟨x760, e761, hf⟩ := zbind hf
        refine zr_iald C0 dL_law_2291 e761 ?_
        refine zr_aload_n C0 dL_law_2292 rfl 3 rfl ?_
        obtain ⟨x764, h762, e763, hf⟩ := zbind2 hf
        refine zr_callSX_r C0 cv_X0_309 (m_X0_invoice C0.2.2.2.2.2.2.1 e763) (by decide) (by decide) rfl rfl (Nat.le_of_ble_eq_true rfl) dL_law_2293 rfl ?_
        refine zr_istore (i := 5) (lv' := [(5, .int x764), (0, .ref p0), (1, .ref p1), (2, .ref p2), (3, .ref p3), (4, .int p4)]) C0 dL_law_2296 (by decide) (by first | rfl | simp [zst1, zst2, zcat_rf]) ?_
        refine zr_aload_n C0 dL_law_2298 rfl 3 rfl ?_
        refine zr_aload_n C0 dL_law_2299 rfl 1 rfl ?_
        refine zr_iload C0 dL_law_2300 5 rfl ?_
        refine zr_iconst C0 (v := 1) dL_law_2302 (by decide) ?_
        refine zr_iadd C0 dL_law_2303 ?_
        obtain ⟨x765, e766, hf⟩ := zbind hf
        refine zr_iald C0 dL_law_2304 e766 ?_
        refine zr_aload_n C0 dL_law_2305 rfl 1 rfl ?_
        refine zr_iload C0 dL_law_2306 5 rfl ?_
        refine zr_iconst C0 (v := 2) dL_law_2308 (by decide) ?_
        refine zr_iadd C0 dL_law_2309 ?_
        obtain ⟨x767, e768, hf⟩ := zbind hf
        refine zr_iald C0 dL_law_2310 e768 ?_
        refine zr_aload_n C0 dL_law_2311 rfl 1 rfl ?_
        refine zr_iload C0 dL_law_2312 5 rfl ?_
        refine zr_iconst C0 (v := 3) dL_law_2314 (by decide) ?_
        refine zr_iadd C0 dL_law_2315 ?_
        obtain ⟨x769, e770, hf⟩ := zbind hf
        refine zr_iald C0 dL_law_2316 e770 ?_
        obtain ⟨_, e771, hf⟩ := zbind hf
        obtain ⟨x774, h772, e773, hf⟩ := zbind2 hf
        refine zr_callV_r C0 cv_X0_311_X6 rfl (zcko e771) (m_X6_invoice C0.2.2.2.2.2.2.1 e773) (by decide) (by decide) rfl rfl (Nat.le_of_ble_eq_true rfl) dL_law_2317 rfl ?_
        refine zr_lstore (i := 6) (lv' := [(6, .long x774), (5, .int x764), (0, .ref p0), (1, .ref p1), (2, .ref p2), (3, .ref p3), (4, .int p4)]) C0 dL_law_2320 (by decide) (by first | rfl | simp [zst1, zst2, zcat_rf]) ?_
        refine zr_aload_n C0 dL_law_2322 rfl 4 rfl ?_
        obtain ⟨_, e775, hf⟩ := zbind hf
        obtain ⟨x778, h776, e777, hf⟩ := zbind2 hf
        refine zr_callV_r C0 cv_X0_214_X6 rfl (zcko e775) (m_X6_thrown C0.2.2.2.2.2.2.1 e777) (by decide) (by decide) rfl rfl (Nat.le_of_ble_eq_true rfl) dL_law_2323 rfl ?_
        refine zr_iload C0 dL_law_2326 1 rfl ?_
        refine zr_icmp_eq C0 (tgt := 2333) dL_law_2328 (by decide) (fun c779 => ?_) (fun c779 => ?_)
        · have hf := zif_t c779 hf
          refine zr_iload C0 dL_law_2333 1 rfl ?_
          refine zr_if_ne C0 (tgt := 2349) dL_law_2335 (by decide) (fun c780 => ?_) (fun c780 => ?_)
          · have hf := zif_f c780 hf
            refine zr_sub [2, 3, 4, 5, 6] rfl ?_
            exact w_L_law_b2349 C0 ih hf
          · have hf := zif_t c780 hf
            refine zr_aload_n C0 dL_law_2338 rfl 5 rfl ?_
            refine zr_iconst C0 (v := 0) dL_law_2339 (by decide) ?_
            obtain ⟨x781, e782, hf⟩ := zbind hf
            refine zr_lald C0 dL_law_2340 e782 ?_
            refine zr_lload C0 dL_law_2341 0 rfl ?_
            refine zr_lcmp C0 dL_law_2343 ?_
            refine zr_if_eq C0 (tgt := 2349) dL_law_2344 (by decide) (fun c783 => ?_) (fun c783 => ?_)
            · have hf := zif_t (zl_eq.mp c783) hf
              refine zr_sub [2, 3, 4, 5, 6] rfl ?_
              exact w_L_law_b2349 C0 ih hf
            · have hf := zif_f (zl_eqn.mp c783) hf
              refine zr_iconst C0 (v := 0) dL_law_2347 (by decide) ?_
              refine zretW hf ?_
              exact zr_iret C0 (ty := .boolean) rfl (by decide) dL_law_2348 rfl
        · have hf := zif_f c779 hf
          refine zr_iconst C0 (v := 0) dL_law_2331 (by decide) ?_
          refine zretW hf ?_
          exact zr_iret C0 (ty := .boolean) rfl (by decide) dL_law_2332 rfl
      have hf := zif_f c755 hf
      rcases Decidable.em ((x4 &&& (63 : Int32)) = 36) with c784 | c784
      · have hf := zif_t c784 hf
        refine zr_tableIn C0 (v := 36) (tgt := 2352) dL_law_40 c784 (by decide) (by decide) rfl (by decide) ?_
        refine zr_aload_n C0 dL_law_2352 rfl 1 rfl ?_
        refine zr_aload_n C0 dL_law_2353 rfl 0 rfl ?_
        refine zr_iload C0 dL_law_2354 4 rfl ?_
        refine zr_iconst C0 (v := 1) dL_law_2356 (by decide) ?_
        refine zr_iadd C0 dL_law_2357 ?_
        obtain ⟨x785, e786, hf⟩ := zbind hf
        refine zr_iald C0 dL_law_2358 e786 ?_
        refine zr_aload_n C0 dL_law_2359 rfl 0 rfl ?_
        refine zr_iload C0 dL_law_2360 4 rfl ?_
        refine zr_iconst C0 (v := 2) dL_law_2362 (by decide) ?_
        refine zr_iadd C0 dL_law_2363 ?_
        obtain ⟨x787, e788, hf⟩ := zbind hf
        refine zr_iald C0 dL_law_2364 e788 ?_
        refine zr_aload_n C0 dL_law_2365 rfl 3 rfl ?_
        obtain ⟨x791, h789, e790, hf⟩ := zbind2 hf
        refine zr_callSX_r C0 cv_X0_312 (m_X0_predictDue C0.2.2.2.2.2.2.1 e790) (by decide) (by decide) rfl rfl (Nat.le_of_ble_eq_true rfl) dL_law_2366 rfl ?_
        refine zr_istore (i := 5) (lv' := [(5, .int x791), (0, .ref p0), (1, .ref p1), (2, .ref p2), (3, .ref p3), (4, .int p4)]) C0 dL_law_2369 (by decide) (by first | rfl | simp [zst1, zst2, zcat_rf]) ?_
        refine zr_aload_n C0 dL_law_2371 rfl 3 rfl ?_
        refine zr_aload_n C0 dL_law_2372 rfl 1 rfl ?_
        refine zr_iload C0 dL_law_2373 5 rfl ?_
        refine zr_iconst C0 (v := 1) dL_law_2375 (by decide) ?_
        refine zr_iadd C0 dL_law_2376 ?_
        obtain ⟨x792, e793, hf⟩ := zbind hf
        refine zr_iald C0 dL_law_2377 e793 ?_
        refine zr_aload_n C0 dL_law_2378 rfl 1 rfl ?_
        refine zr_iload C0 dL_law_2379 5 rfl ?_
        refine zr_iconst C0 (v := 2) dL_law_2381 (by decide) ?_
        refine zr_iadd C0 dL_law_2382 ?_
        obtain ⟨x794, e795, hf⟩ := zbind hf
        refine zr_iald C0 dL_law_2383 e795 ?_
        obtain ⟨_, e796, hf⟩ := zbind hf
        obtain ⟨x799, h797, e798, hf⟩ := zbind2 hf
        refine zr_callV_r C0 cv_X0_314_X6 rfl (zcko e796) (m_X6_predictDue C0.2.2.2.2.2.2.1 e798) (by decide) (by decide) rfl rfl (Nat.le_of_ble_eq_true rfl) dL_law_2384 rfl ?_
        refine zr_lstore (i := 6) (lv' := [(6, .long x799), (5, .int x791), (0, .ref p0), (1, .ref p1), (2, .ref p2), (3, .ref p3), (4, .int p4)]) C0 dL_law_2387 (by decide) (by first | rfl | simp [zst1, zst2, zcat_rf]) ?_
        refine zr_aload_n C0 dL_law_2389 rfl 4 rfl ?_
        obtain ⟨_, e800, hf⟩ := zbind hf
        obtain ⟨x803, h801, e802, hf⟩ := zbind2 hf
        refine zr_callV_r C0 cv_X0_214_X6 rfl (zcko e800) (m_X6_thrown C0.2.2.2.2.2.2.1 e802) (by decide) (by decide) rfl rfl (Nat.le_of_ble_eq_true rfl) dL_law_2390 rfl ?_
        refine zr_iload C0 dL_law_2393 1 rfl ?_
        refine zr_icmp_eq C0 (tgt := 2400) dL_law_2395 (by decide) (fun c804 => ?_) (fun c804 => ?_)
        · have hf := zif_t c804 hf
          refine zr_iload C0 dL_law_2400 1 rfl ?_
          refine zr_if_ne C0 (tgt := 2416) dL_law_2402 (by decide) (fun c805 => ?_) (fun c805 => ?_)
          · have hf := zif_f c805 hf
            refine zr_sub [2, 3, 4, 5, 6] rfl ?_
            exact w_L_law_b2416 C0 ih hf
          · have hf := zif_t c805 hf
            refine zr_aload_n C0 dL_law_2405 rfl 5 rfl ?_
            refine zr_iconst C0 (v := 0) dL_law_2406 (by decide) ?_
            obtain ⟨x806, e807, hf⟩ := zbind hf
            refine zr_lald C0 dL_law_2407 e807 ?_
            refine zr_lload C0 dL_law_2408 0 rfl ?_
            refine zr_lcmp C0 dL_law_2410 ?_
            refine zr_if_eq C0 (tgt := 2416) dL_law_2411 (by decide) (fun c808 => ?_) (fun c808 => ?_)
            · have hf := zif_t (zl_eq.mp c808) hf
              refine zr_sub [2, 3, 4, 5, 6] rfl ?_
              exact w_L_law_b2416 C0 ih hf
            · have hf := zif_f (zl_eqn.mp c808) hf
              refine zr_iconst C0 (v := 0) dL_law_2414 (by decide) ?_
              refine zretW hf ?_
              exact zr_iret C0 (ty := .boolean) rfl (by decide) dL_law_2415 rfl
        · have hf := zif_f c804 hf
          refine zr_iconst C0 (v := 0) dL_law_2398 (by decide) ?_
          refine zretW hf ?_
          exact zr_iret C0 (ty := .boolean) rfl (by decide) dL_law_2399 rfl
      have hf := zif_f c784 hf
      rcases Decidable.em ((x4 &&& (63 : Int32)) = 37) with c809 | c809
      · have hf := zif_t c809 hf
        refine zr_tableIn C0 (v := 37) (tgt := 2419) dL_law_40 c809 (by decide) (by decide) rfl (by decide) ?_
        refine zr_aload_n C0 dL_law_2419 rfl 1 rfl ?_
        refine zr_aload_n C0 dL_law_2420 rfl 0 rfl ?_
        refine zr_iload C0 dL_law_2421 4 rfl ?_
        refine zr_iconst C0 (v := 1) dL_law_2423 (by decide) ?_
        refine zr_iadd C0 dL_law_2424 ?_
        obtain ⟨x810, e811, hf⟩ := zbind hf
        refine zr_iald C0 dL_law_2425 e811 ?_
        refine zr_aload_n C0 dL_law_2426 rfl 3 rfl ?_
        obtain ⟨x814, h812, e813, hf⟩ := zbind2 hf
        refine zr_callSX_r C0 cv_X0_315 (m_X0_balance C0.2.2.2.2.2.2.1 e813) (by decide) (by decide) rfl rfl (Nat.le_of_ble_eq_true rfl) dL_law_2427 rfl ?_
        refine zr_istore (i := 5) (lv' := [(5, .int x814), (0, .ref p0), (1, .ref p1), (2, .ref p2), (3, .ref p3), (4, .int p4)]) C0 dL_law_2430 (by decide) (by first | rfl | simp [zst1, zst2, zcat_rf]) ?_
        refine zr_aload_n C0 dL_law_2432 rfl 3 rfl ?_
        refine zr_aload_n C0 dL_law_2433 rfl 1 rfl ?_
        refine zr_iload C0 dL_law_2434 5 rfl ?_
        refine zr_iconst C0 (v := 1) dL_law_2436 (by decide) ?_
        refine zr_iadd C0 dL_law_2437 ?_
        obtain ⟨x815, e816, hf⟩ := zbind hf
        refine zr_iald C0 dL_law_2438 e816 ?_
        obtain ⟨_, e817, hf⟩ := zbind hf
        obtain ⟨x820, h818, e819, hf⟩ := zbind2 hf
        refine zr_callV_r C0 cv_X0_317_X6 rfl (zcko e817) (m_X6_balance C0.2.2.2.2.2.2.1 e819) (by decide) (by decide) rfl rfl (Nat.le_of_ble_eq_true rfl) dL_law_2439 rfl ?_
        refine zr_lstore (i := 6) (lv' := [(6, .long x820), (5, .int x814), (0, .ref p0), (1, .ref p1), (2, .ref p2), (3, .ref p3), (4, .int p4)]) C0 dL_law_2442 (by decide) (by first | rfl | simp [zst1, zst2, zcat_rf]) ?_
        refine zr_aload_n C0 dL_law_2444 rfl 4 rfl ?_
        obtain ⟨_, e821, hf⟩ := zbind hf
        obtain ⟨x824, h822, e823, hf⟩ := zbind2 hf
        refine zr_callV_r C0 cv_X0_214_X6 rfl (zcko e821) (m_X6_thrown C0.2.2.2.2.2.2.1 e823) (by decide) (by decide) rfl rfl (Nat.le_of_ble_eq_true rfl) dL_law_2445 rfl ?_
        refine zr_iload C0 dL_law_2448 1 rfl ?_
        refine zr_icmp_eq C0 (tgt := 2455) dL_law_2450 (by decide) (fun c825 => ?_) (fun c825 => ?_)
        · have hf := zif_t c825 hf
          refine zr_iload C0 dL_law_2455 1 rfl ?_
          refine zr_if_ne C0 (tgt := 2471) dL_law_2457 (by decide) (fun c826 => ?_) (fun c826 => ?_)
          · have hf := zif_f c826 hf
            refine zr_sub [2, 3, 4, 5, 6] rfl ?_
            exact w_L_law_b2471 C0 ih hf
          · have hf := zif_t c826 hf
            refine zr_aload_n C0 dL_law_2460 rfl 5 rfl ?_
            refine zr_iconst C0 (v := 0) dL_law_2461 (by decide) ?_
            obtain ⟨x827, e828, hf⟩ := zbind hf
            refine zr_lald C0 dL_law_2462 e828 ?_
            refine zr_lload C0 dL_law_2463 0 rfl ?_
            refine zr_lcmp C0 dL_law_2465 ?_
            refine zr_if_eq C0 (tgt := 2471) dL_law_2466 (by decide) (fun c829 => ?_) (fun c829 => ?_)
            · have hf := zif_t (zl_eq.mp c829) hf
              refine zr_sub [2, 3, 4, 5, 6] rfl ?_
              exact w_L_law_b2471 C0 ih hf
            · have hf := zif_f (zl_eqn.mp c829) hf
              refine zr_iconst C0 (v := 0) dL_law_2469 (by decide) ?_
              refine zretW hf ?_
              exact zr_iret C0 (ty := .boolean) rfl (by decide) dL_law_2470 rfl
        · have hf := zif_f c825 hf
          refine zr_iconst C0 (v := 0) dL_law_2453 (by decide) ?_
          refine zretW hf ?_
          exact zr_iret C0 (ty := .boolean) rfl (by decide) dL_law_2454 rfl
      have hf := zif_f c809 hf
      rcases Decidable.em ((x4 &&& (63 : Int32)) = 38) with c830 | c830
      · have hf := zif_t c830 hf
        refine zr_tableIn C0 (v := 38) (tgt := 2474) dL_law_40 c830 (by decide) (by decide) rfl (by decide) ?_
        refine zr_aload_n C0 dL_law_2474 rfl 1 rfl ?_
        obtain ⟨_, e831, hf⟩ := zbind hf
        obtain ⟨x834, h832, e833, hf⟩ := zbind2 hf
        refine zr_callV_r C0 cv_X0_318_X1 rfl (zcko e831) (m_X1_totalOwed C0.2.2.2.2.2.2.1 e833) (by decide) (by decide) rfl rfl (Nat.le_of_ble_eq_true rfl) dL_law_2475 rfl ?_
        refine zr_aload_n C0 dL_law_2478 rfl 2 rfl ?_
        obtain ⟨_, e835, hf⟩ := zbind hf
        obtain ⟨x838, h836, e837, hf⟩ := zbind2 hf
        refine zr_callV_r C0 cv_X0_322_X6 rfl (zcko e835) (m_X6_totalOwed C0.2.2.2.2.2.2.1 e837) (by decide) (by decide) rfl rfl (Nat.le_of_ble_eq_true rfl) dL_law_2479 rfl ?_
        refine zr_lcmp C0 dL_law_2482 ?_
        refine zr_if_eq C0 (tgt := 4006) dL_law_2483 (by decide) (fun c839 => ?_) (fun c839 => ?_)
        · have hf := zif_t (zl_eq.mp c839) hf
          exact w_L_law_b4006 C0 ih hf
        · have hf := zif_f (zl_eqn.mp c839) hf
          refine zr_iconst C0 (v := 0) dL_law_2486 (by decide) ?_
          refine zretW hf ?_
          exact zr_iret C0 (ty := .boolean) rfl (by decide) dL_law_2487 rfl
      have hf := zif_f c830 hf
      rcases Decidable.em ((x4 &&& (63 : Int32)) = 39) with c840 | c840
      · have hf := zif_t c840 hf
        refine zr_tableIn C0 (v := 39) (tgt := 2488) dL_law_40 c840 (by decide) (by decide) rfl (by decide) ?_
        refine zr_aload_n C0 dL_law_2488 rfl 1 rfl ?_
        refine zr_aload_n C0 dL_law_2489 rfl 0 rfl ?_
        refine zr_iload C0 dL_law_2490 4 rfl ?_
        refine zr_iconst C0 (v := 1) dL_law_2492 (by decide) ?_
        refine zr_iadd C0 dL_law_2493 ?_
        obtain ⟨x841, e842, hf⟩ := zbind hf
        refine zr_iald C0 dL_law_2494 e842 ?_
        refine zr_aload_n C0 dL_law_2495 rfl 0 rfl ?_
        refine zr_iload C0 dL_law_2496 4 rfl ?_
        refine zr_iconst C0 (v := 2) dL_law_2498 (by decide) ?_
        refine zr_iadd C0 dL_law_2499 ?_
        obtain ⟨x843, e844, hf⟩ := zbind hf
        refine zr_iald C0 dL_law_2500 e844 ?_
        refine zr_i2l C0 dL_law_2501 ?_
        refine zr_bipush C0 (v := 32) dL_law_2502 (by decide) ?_
        refine zr_lshl C0 dL_law_2504 ?_
        refine zr_aload_n C0 dL_law_2505 rfl 0 rfl ?_
        refine zr_iload C0 dL_law_2506 4 rfl ?_
        refine zr_iconst C0 (v := 3) dL_law_2508 (by decide) ?_
        refine zr_iadd C0 dL_law_2509 ?_
        obtain ⟨x845, e846, hf⟩ := zbind hf
        refine zr_iald C0 dL_law_2510 e846 ?_
        refine zr_i2l C0 dL_law_2511 ?_
        refine zr_ldc2 C0 (v := 4294967295) q3235 dL_law_2512 ?_
        refine zr_land C0 dL_law_2515 ?_
        refine zr_lor C0 dL_law_2516 ?_
        refine zr_aload_n C0 dL_law_2517 rfl 3 rfl ?_
        obtain ⟨x849, h847, e848, hf⟩ := zbind2 hf
        refine zr_callSX_r C0 cv_X0_323 (m_X0_pay C0.2.2.2.2.2.2.1 e848) (by decide) (by decide) rfl rfl (Nat.le_of_ble_eq_true rfl) dL_law_2518 rfl ?_
        refine zr_istore (i := 5) (lv' := [(5, .int x849), (0, .ref p0), (1, .ref p1), (2, .ref p2), (3, .ref p3), (4, .int p4)]) C0 dL_law_2521 (by decide) (by first | rfl | simp [zst1, zst2, zcat_rf]) ?_
        refine zr_aload_n C0 dL_law_2523 rfl 3 rfl ?_
        refine zr_aload_n C0 dL_law_2524 rfl 1 rfl ?_
        refine zr_iload C0 dL_law_2525 5 rfl ?_
        refine zr_iconst C0 (v := 1) dL_law_2527 (by decide) ?_
        refine zr_iadd C0 dL_law_2528 ?_
        obtain ⟨x850, e851, hf⟩ := zbind hf
        refine zr_iald C0 dL_law_2529 e851 ?_
        refine zr_aload_n C0 dL_law_2530 rfl 1 rfl ?_
        refine zr_iload C0 dL_law_2531 5 rfl ?_
        refine zr_iconst C0 (v := 2) dL_law_2533 (by decide) ?_
        refine zr_iadd C0 dL_law_2534 ?_
        obtain ⟨x852, e853, hf⟩ := zbind hf
        refine zr_iald C0 dL_law_2535 e853 ?_
        refine zr_i2l C0 dL_law_2536 ?_
        refine zr_bipush C0 (v := 32) dL_law_2537 (by decide) ?_
        refine zr_lshl C0 dL_law_2539 ?_
        refine zr_aload_n C0 dL_law_2540 rfl 1 rfl ?_
        refine zr_iload C0 dL_law_2541 5 rfl ?_
        refine zr_iconst C0 (v := 3) dL_law_2543 (by decide) ?_
        refine zr_iadd C0 dL_law_2544 ?_
        obtain ⟨x854, e855, hf⟩ := zbind hf
        refine zr_iald C0 dL_law_2545 e855 ?_
        refine zr_i2l C0 dL_law_2546 ?_
        refine zr_ldc2 C0 (v := 4294967295) q3235 dL_law_2547 ?_
        refine zr_land C0 dL_law_2550 ?_
        refine zr_lor C0 dL_law_2551 ?_
        obtain ⟨_, e856, hf⟩ := zbind hf
        obtain ⟨x859, h857, e858, hf⟩ := zbind2 hf
        refine zr_callV_r C0 cv_X0_325_X6 rfl (zcko e856) (m_X6_pay C0.2.2.2.2.2.2.1 e858) (by decide) (by decide) rfl rfl (Nat.le_of_ble_eq_true rfl) dL_law_2552 rfl ?_
        refine zr_lstore (i := 6) (lv' := [(6, .long x859), (5, .int x849), (0, .ref p0), (1, .ref p1), (2, .ref p2), (3, .ref p3), (4, .int p4)]) C0 dL_law_2555 (by decide) (by first | rfl | simp [zst1, zst2, zcat_rf]) ?_
        refine zr_aload_n C0 dL_law_2557 rfl 4 rfl ?_
        obtain ⟨_, e860, hf⟩ := zbind hf
        obtain ⟨x863, h861, e862, hf⟩ := zbind2 hf
        refine zr_callV_r C0 cv_X0_214_X6 rfl (zcko e860) (m_X6_thrown C0.2.2.2.2.2.2.1 e862) (by decide) (by decide) rfl rfl (Nat.le_of_ble_eq_true rfl) dL_law_2558 rfl ?_
        refine zr_iload C0 dL_law_2561 1 rfl ?_
        refine zr_icmp_eq C0 (tgt := 2568) dL_law_2563 (by decide) (fun c864 => ?_) (fun c864 => ?_)
        · have hf := zif_t c864 hf
          refine zr_iload C0 dL_law_2568 1 rfl ?_
          refine zr_if_ne C0 (tgt := 2584) dL_law_2570 (by decide) (fun c865 => ?_) (fun c865 => ?_)
          · have hf := zif_f c865 hf
            refine zr_sub [2, 3, 4, 5, 6] rfl ?_
            exact w_L_law_b2584 C0 ih hf
          · have hf := zif_t c865 hf
            refine zr_aload_n C0 dL_law_2573 rfl 5 rfl ?_
            refine zr_iconst C0 (v := 0) dL_law_2574 (by decide) ?_
            obtain ⟨x866, e867, hf⟩ := zbind hf
            refine zr_lald C0 dL_law_2575 e867 ?_
            refine zr_lload C0 dL_law_2576 0 rfl ?_
            refine zr_lcmp C0 dL_law_2578 ?_
            refine zr_if_eq C0 (tgt := 2584) dL_law_2579 (by decide) (fun c868 => ?_) (fun c868 => ?_)
            · have hf := zif_t (zl_eq.mp c868) hf
              refine zr_sub [2, 3, 4, 5, 6] rfl ?_
              exact w_L_law_b2584 C0 ih hf
            · have hf := zif_f (zl_eqn.mp c868) hf
              refine zr_iconst C0 (v := 0) dL_law_2582 (by decide) ?_
              refine zretW hf ?_
              exact zr_iret C0 (ty := .boolean) rfl (by decide) dL_law_2583 rfl
        · have hf := zif_f c864 hf
          refine zr_iconst C0 (v := 0) dL_law_2566 (by decide) ?_
          refine zretW hf ?_
          exact zr_iret C0 (ty := .boolean) rfl (by decide) dL_law_2567 rfl
      have hf := zif_f c840 hf
      rcases Decidable.em ((x4 &&& (63 : Int32)) = 40) with c869 | c869
      · have hf := zif_t c869 hf
        refine zr_tableIn C0 (v := 40) (tgt := 2587) dL_law_40 c869 (by decide) (by decide) rfl (by decide) ?_
        refine zr_aload_n C0 dL_law_2587 rfl 1 rfl ?_
        refine zr_aload_n C0 dL_law_2588 rfl 0 rfl ?_
        refine zr_iload C0 dL_law_2589 4 rfl ?_
        refine zr_iconst C0 (v := 1) dL_law_2591 (by decide) ?_
        refine zr_iadd C0 dL_law_2592 ?_
        obtain ⟨x870, e871, hf⟩ := zbind hf
        refine zr_iald C0 dL_law_2593 e871 ?_
        refine zr_aload_n C0 dL_law_2594 rfl 3 rfl ?_
        obtain ⟨x874, h872, e873, hf⟩ := zbind2 hf
        refine zr_callSX_r C0 cv_X0_326 (m_X0_monthsOverdue C0.2.2.2.2.2.2.1 e873) (by decide) (by decide) rfl rfl (Nat.le_of_ble_eq_true rfl) dL_law_2595 rfl ?_
        refine zr_istore (i := 5) (lv' := [(5, .int x874), (0, .ref p0), (1, .ref p1), (2, .ref p2), (3, .ref p3), (4, .int p4)]) C0 dL_law_2598 (by decide) (by first | rfl | simp [zst1, zst2, zcat_rf]) ?_
        refine zr_aload_n C0 dL_law_2600 rfl 3 rfl ?_
        refine zr_aload_n C0 dL_law_2601 rfl 1 rfl ?_
        refine zr_iload C0 dL_law_2602 5 rfl ?_
        refine zr_iconst C0 (v := 1) dL_law_2604 (by decide) ?_
        refine zr_iadd C0 dL_law_2605 ?_
        obtain ⟨x875, e876, hf⟩ := zbind hf
        refine zr_iald C0 dL_law_2606 e876 ?_
        obtain ⟨_, e877, hf⟩ := zbind hf
        obtain ⟨x880, h878, e879, hf⟩ := zbind2 hf
        refine zr_callV_r C0 cv_X0_328_X6 rfl (zcko e877) (m_X6_monthsOverdue C0.2.2.2.2.2.2.1 e879) (by decide) (by decide) rfl rfl (Nat.le_of_ble_eq_true rfl) dL_law_2607 rfl ?_
        refine zr_istore (i := 6) (lv' := [(6, .int x880), (5, .int x874), (0, .ref p0), (1, .ref p1), (2, .ref p2), (3, .ref p3), (4, .int p4)]) C0 dL_law_2610 (by decide) (by first | rfl | simp [zst1, zst2, zcat_rf]) ?_
        refine zr_aload_n C0 dL_law_2612 rfl 4 rfl ?_
        obtain ⟨_, e881, hf⟩ := zbind hf
        obtain ⟨x884, h882, e883, hf⟩ := zbind2 hf
        refine zr_callV_r C0 cv_X0_214_X6 rfl (zcko e881) (m_X6_thrown C0.2.2.2.2.2.2.1 e883) (by decide) (by decide) rfl rfl (Nat.le_of_ble_eq_true rfl) dL_law_2613 rfl ?_
        refine zr_iload C0 dL_law_2616 1 rfl ?_
        refine zr_icmp_eq C0 (tgt := 2623) dL_law_2618 (by decide) (fun c885 => ?_) (fun c885 => ?_)
        · have hf := zif_t c885 hf
          refine zr_iload C0 dL_law_2623 1 rfl ?_
          refine zr_if_ne C0 (tgt := 2640) dL_law_2625 (by decide) (fun c886 => ?_) (fun c886 => ?_)
          · have hf := zif_f c886 hf
            refine zr_sub [2, 3, 4, 5, 6] rfl ?_
            exact w_L_law_b2640 C0 ih hf
          · have hf := zif_t c886 hf
            refine zr_aload_n C0 dL_law_2628 rfl 5 rfl ?_
            refine zr_iconst C0 (v := 0) dL_law_2629 (by decide) ?_
            obtain ⟨x887, e888, hf⟩ := zbind hf
            refine zr_lald C0 dL_law_2630 e888 ?_
            refine zr_iload C0 dL_law_2631 0 rfl ?_
            refine zr_i2l C0 dL_law_2633 ?_
            refine zr_lcmp C0 dL_law_2634 ?_
            refine zr_if_eq C0 (tgt := 2640) dL_law_2635 (by decide) (fun c889 => ?_) (fun c889 => ?_)
            · have hf := zif_t (zl_eq.mp c889) hf
              refine zr_sub [2, 3, 4, 5, 6] rfl ?_
              exact w_L_law_b2640 C0 ih hf
            · have hf := zif_f (zl_eqn.mp c889) hf
              refine zr_iconst C0 (v := 0) dL_law_2638 (by decide) ?_
              refine zretW hf ?_
              exact zr_iret C0 (ty := .boolean) rfl (by decide) dL_law_2639 rfl
        · have hf := zif_f c885 hf
          refine zr_iconst C0 (v := 0) dL_law_2621 (by decide) ?_
          refine zretW hf ?_
          exact zr_iret C0 (ty := .boolean) rfl (by decide) dL_law_2622 rfl
      have hf := zif_f c869 hf
      rcases Decidable.em ((x4 &&& (63 : Int32)) = 41) with c890 | c890
      · have hf := zif_t c890 hf
        refine zr_tableIn C0 (v := 41) (tgt := 2643) dL_law_40 c890 (by decide) (by decide) rfl (by decide) ?_
        refine zr_aload_n C0 dL_law_2643 rfl 1 rfl ?_
        refine zr_aload_n C0 dL_law_2644 rfl 0 rfl ?_
        refine zr_iload C0 dL_law_2645 4 rfl ?_
        refine zr_iconst C0 (v := 1) dL_law_2647 (by decide) ?_
        refine zr_iadd C0 dL_law_2648 ?_
        obtain ⟨x891, e892, hf⟩ := zbind hf
        refine zr_iald C0 dL_law_2649 e892 ?_
        refine zr_aload_n C0 dL_law_2650 rfl 0 rfl ?_
        refine zr_iload C0 dL_law_2651 4 rfl ?_
        refine zr_iconst C0 (v := 2) dL_law_2653 (by decide) ?_
        refine zr_iadd C0 dL_law_2654 ?_
        obtain ⟨x893, e894, hf⟩ := zbind hf
        refine zr_iald C0 dL_law_2655 e894 ?_
        refine zr_i2l C0 dL_law_2656 ?_
        refine zr_bipush C0 (v := 32) dL_law_2657 (by decide) ?_
        refine zr_lshl C0 dL_law_2659 ?_
        refine zr_aload_n C0 dL_law_2660 rfl 0 rfl ?_
        refine zr_iload C0 dL_law_2661 4 rfl ?_
        refine zr_iconst C0 (v := 3) dL_law_2663 (by decide) ?_
        refine zr_iadd C0 dL_law_2664 ?_
        obtain ⟨x895, e896, hf⟩ := zbind hf
        refine zr_iald C0 dL_law_2665 e896 ?_
        refine zr_i2l C0 dL_law_2666 ?_
        refine zr_ldc2 C0 (v := 4294967295) q3235 dL_law_2667 ?_
        refine zr_land C0 dL_law_2670 ?_
        refine zr_lor C0 dL_law_2671 ?_
        refine zr_aload_n C0 dL_law_2672 rfl 3 rfl ?_
        obtain ⟨x899, h897, e898, hf⟩ := zbind2 hf
        refine zr_callSX_r C0 cv_X0_329 (m_X0_payOff C0.2.2.2.2.2.2.1 e898) (by decide) (by decide) rfl rfl (Nat.le_of_ble_eq_true rfl) dL_law_2673 rfl ?_
        refine zr_istore (i := 5) (lv' := [(5, .int x899), (0, .ref p0), (1, .ref p1), (2, .ref p2), (3, .ref p3), (4, .int p4)]) C0 dL_law_2676 (by decide) (by first | rfl | simp [zst1, zst2, zcat_rf]) ?_
        refine zr_aload_n C0 dL_law_2678 rfl 3 rfl ?_
        refine zr_aload_n C0 dL_law_2679 rfl 1 rfl ?_
        refine zr_iload C0 dL_law_2680 5 rfl ?_
        refine zr_iconst C0 (v := 1) dL_law_2682 (by decide) ?_
        refine zr_iadd C0 dL_law_2683 ?_
        obtain ⟨x900, e901, hf⟩ := zbind hf
        refine zr_iald C0 dL_law_2684 e901 ?_
        refine zr_aload_n C0 dL_law_2685 rfl 1 rfl ?_
        refine zr_iload C0 dL_law_2686 5 rfl ?_
        refine zr_iconst C0 (v := 2) dL_law_2688 (by decide) ?_
        refine zr_iadd C0 dL_law_2689 ?_
        obtain ⟨x902, e903, hf⟩ := zbind hf
        refine zr_iald C0 dL_law_2690 e903 ?_
        refine zr_i2l C0 dL_law_2691 ?_
        refine zr_bipush C0 (v := 32) dL_law_2692 (by decide) ?_
        refine zr_lshl C0 dL_law_2694 ?_
        refine zr_aload_n C0 dL_law_2695 rfl 1 rfl ?_
        refine zr_iload C0 dL_law_2696 5 rfl ?_
        refine zr_iconst C0 (v := 3) dL_law_2698 (by decide) ?_
        refine zr_iadd C0 dL_law_2699 ?_
        obtain ⟨x904, e905, hf⟩ := zbind hf
        refine zr_iald C0 dL_law_2700 e905 ?_
        refine zr_i2l C0 dL_law_2701 ?_
        refine zr_ldc2 C0 (v := 4294967295) q3235 dL_law_2702 ?_
        refine zr_land C0 dL_law_2705 ?_
        refine zr_lor C0 dL_law_2706 ?_
        obtain ⟨_, e906, hf⟩ := zbind hf
        obtain ⟨x909, h907, e908, hf⟩ := zbind2 hf
        refine zr_callV_r C0 cv_X0_331_X6 rfl (zcko e906) (m_X6_payOff C0.2.2.2.2.2.2.1 e908) (by decide) (by decide) rfl rfl (Nat.le_of_ble_eq_true rfl) dL_law_2707 rfl ?_
        refine zr_istore (i := 6) (lv' := [(6, .int x909), (5, .int x899), (0, .ref p0), (1, .ref p1), (2, .ref p2), (3, .ref p3), (4, .int p4)]) C0 dL_law_2710 (by decide) (by first | rfl | simp [zst1, zst2, zcat_rf]) ?_
        refine zr_aload_n C0 dL_law_2712 rfl 4 rfl ?_
        obtain ⟨_, e910, hf⟩ := zbind hf
        obtain ⟨x913, h911, e912, hf⟩ := zbind2 hf
        refine zr_callV_r C0 cv_X0_214_X6 rfl (zcko e910) (m_X6_thrown C0.2.2.2.2.2.2.1 e912) (by decide) (by decide) rfl rfl (Nat.le_of_ble_eq_true rfl) dL_law_2713 rfl ?_
        refine zr_iload C0 dL_law_2716 1 rfl ?_
        refine zr_icmp_eq C0 (tgt := 2723) dL_law_2718 (by decide) (fun c914 => ?_) (fun c914 => ?_)
        · have hf := zif_t c914 hf
          refine zr_iload C0 dL_law_2723 1 rfl ?_
          refine zr_if_ne C0 (tgt := 2740) dL_law_2725 (by decide) (fun c915 => ?_) (fun c915 => ?_)
          · have hf := zif_f c915 hf
            refine zr_sub [2, 3, 4, 5, 6] rfl ?_
            exact w_L_law_b2740 C0 ih hf
          · have hf := zif_t c915 hf
            refine zr_aload_n C0 dL_law_2728 rfl 5 rfl ?_
            refine zr_iconst C0 (v := 0) dL_law_2729 (by decide) ?_
            obtain ⟨x916, e917, hf⟩ := zbind hf
            refine zr_lald C0 dL_law_2730 e917 ?_
            refine zr_iload C0 dL_law_2731 0 rfl ?_
            refine zr_i2l C0 dL_law_2733 ?_
            refine zr_lcmp C0 dL_law_2734 ?_
            refine zr_if_eq C0 (tgt := 2740) dL_law_2735 (by decide) (fun c918 => ?_) (fun c918 => ?_)
            · have hf := zif_t (zl_eq.mp c918) hf
              refine zr_sub [2, 3, 4, 5, 6] rfl ?_
              exact w_L_law_b2740 C0 ih hf
            · have hf := zif_f (zl_eqn.mp c918) hf
              refine zr_iconst C0 (v := 0) dL_law_2738 (by decide) ?_
              refine zretW hf ?_
              exact zr_iret C0 (ty := .boolean) rfl (by decide) dL_law_2739 rfl
        · have hf := zif_f c914 hf
          refine zr_iconst C0 (v := 0) dL_law_2721 (by decide) ?_
          refine zretW hf ?_
          exact zr_iret C0 (ty := .boolean) rfl (by decide) dL_law_2722 rfl
      have hf := zif_f c890 hf
      rcases Decidable.em ((x4 &&& (63 : Int32)) = 42) with c919 | c919
      · have hf := zif_t c919 hf
        refine zr_tableIn C0 (v := 42) (tgt := 2743) dL_law_40 c919 (by decide) (by decide) rfl (by decide) ?_
        refine zr_aload_n C0 dL_law_2743 rfl 1 rfl ?_
        refine zr_aload_n C0 dL_law_2744 rfl 0 rfl ?_
        refine zr_iload C0 dL_law_2745 4 rfl ?_
        refine zr_iconst C0 (v := 1) dL_law_2747 (by decide) ?_
        refine zr_iadd C0 dL_law_2748 ?_
        obtain ⟨x920, e921, hf⟩ := zbind hf
        refine zr_iald C0 dL_law_2749 e921 ?_
        refine zr_aload_n C0 dL_law_2750 rfl 3 rfl ?_
        obtain ⟨x924, h922, e923, hf⟩ := zbind2 hf
        refine zr_callSX_r C0 cv_X0_332 (m_X0_terminate C0.2.2.2.2.2.2.1 e923) (by decide) (by decide) rfl rfl (Nat.le_of_ble_eq_true rfl) dL_law_2751 rfl ?_
        refine zr_istore (i := 5) (lv' := [(5, .int x924), (0, .ref p0), (1, .ref p1), (2, .ref p2), (3, .ref p3), (4, .int p4)]) C0 dL_law_2754 (by decide) (by first | rfl | simp [zst1, zst2, zcat_rf]) ?_
        refine zr_aload_n C0 dL_law_2756 rfl 3 rfl ?_
        refine zr_aload_n C0 dL_law_2757 rfl 1 rfl ?_
        refine zr_iload C0 dL_law_2758 5 rfl ?_
        refine zr_iconst C0 (v := 1) dL_law_2760 (by decide) ?_
        refine zr_iadd C0 dL_law_2761 ?_
        obtain ⟨x925, e926, hf⟩ := zbind hf
        refine zr_iald C0 dL_law_2762 e926 ?_
        obtain ⟨_, e927, hf⟩ := zbind hf
        obtain ⟨x930, h928, e929, hf⟩ := zbind2 hf
        refine zr_callV_r C0 cv_X0_334_X6 rfl (zcko e927) (m_X6_terminate C0.2.2.2.2.2.2.1 e929) (by decide) (by decide) rfl rfl (Nat.le_of_ble_eq_true rfl) dL_law_2763 rfl ?_
        refine zr_istore (i := 6) (lv' := [(6, .int x930), (5, .int x924), (0, .ref p0), (1, .ref p1), (2, .ref p2), (3, .ref p3), (4, .int p4)]) C0 dL_law_2766 (by decide) (by first | rfl | simp [zst1, zst2, zcat_rf]) ?_
        refine zr_aload_n C0 dL_law_2768 rfl 4 rfl ?_
        obtain ⟨_, e931, hf⟩ := zbind hf
        obtain ⟨x934, h932, e933, hf⟩ := zbind2 hf
        refine zr_callV_r C0 cv_X0_214_X6 rfl (zcko e931) (m_X6_thrown C0.2.2.2.2.2.2.1 e933) (by decide) (by decide) rfl rfl (Nat.le_of_ble_eq_true rfl) dL_law_2769 rfl ?_
        refine zr_iload C0 dL_law_2772 1 rfl ?_
        refine zr_icmp_eq C0 (tgt := 2779) dL_law_2774 (by decide) (fun c935 => ?_) (fun c935 => ?_)
        · have hf := zif_t c935 hf
          refine zr_iload C0 dL_law_2779 1 rfl ?_
          refine zr_if_ne C0 (tgt := 2803) dL_law_2781 (by decide) (fun c936 => ?_) (fun c936 => ?_)
          · have hf := zif_f c936 hf
            refine zr_sub [2, 3, 4, 5, 6] rfl ?_
            exact w_L_law_b2803 C0 ih hf
          · have hf := zif_t c936 hf
            refine zr_aload_n C0 dL_law_2784 rfl 5 rfl ?_
            refine zr_iconst C0 (v := 0) dL_law_2785 (by decide) ?_
            obtain ⟨x937, e938, hf⟩ := zbind hf
            refine zr_lald C0 dL_law_2786 e938 ?_
            refine zr_iload C0 dL_law_2787 0 rfl ?_
            refine zr_if_eq C0 (tgt := 2796) dL_law_2789 (by decide) (fun c939 => ?_) (fun c939 => ?_)
            · have hf := zif_t c939 hf
              refine zr_lconst C0 (v := 0) dL_law_2796 (by decide) ?_
              refine zr_sub [2, 3, 4, 5, 6] rfl ?_
              exact w_L_law_b2797 C0 ih hf
            · have hf := zif_f c939 hf
              refine zr_lconst C0 (v := 1) dL_law_2792 (by decide) ?_
              refine zr_goto C0 (tgt := 2797) dL_law_2793 (by decide) ?_
              refine zr_sub [2, 3, 4, 5, 6] rfl ?_
              exact w_L_law_b2797 C0 ih hf
        · have hf := zif_f c935 hf
          refine zr_iconst C0 (v := 0) dL_law_2777 (by decide) ?_
          refine zretW hf ?_
          exact zr_iret C0 (ty := .boolean) rfl (by decide) dL_law_2778 rfl
      have hf := zif_f c919 hf
      rcases Decidable.em ((x4 &&& (63 : Int32)) = 43) with c940 | c940
      · have hf := zif_t c940 hf
        refine zr_tableIn C0 (v := 43) (tgt := 2806) dL_law_40 c940 (by decide) (by decide) rfl (by decide) ?_
        refine zr_aload_n C0 dL_law_2806 rfl 1 rfl ?_
        refine zr_aload_n C0 dL_law_2807 rfl 0 rfl ?_
        refine zr_iload C0 dL_law_2808 4 rfl ?_
        refine zr_iconst C0 (v := 1) dL_law_2810 (by decide) ?_
        refine zr_iadd C0 dL_law_2811 ?_
        obtain ⟨x941, e942, hf⟩ := zbind hf
        refine zr_iald C0 dL_law_2812 e942 ?_
        refine zr_aload_n C0 dL_law_2813 rfl 3 rfl ?_
        obtain ⟨x945, h943, e944, hf⟩ := zbind2 hf
        refine zr_callSX_r C0 cv_X0_335 (m_X0_status C0.2.2.2.2.2.2.1 e944) (by decide) (by decide) rfl rfl (Nat.le_of_ble_eq_true rfl) dL_law_2814 rfl ?_
        refine zr_istore (i := 5) (lv' := [(5, .int x945), (0, .ref p0), (1, .ref p1), (2, .ref p2), (3, .ref p3), (4, .int p4)]) C0 dL_law_2817 (by decide) (by first | rfl | simp [zst1, zst2, zcat_rf]) ?_
        refine zr_aload_n C0 dL_law_2819 rfl 3 rfl ?_
        refine zr_aload_n C0 dL_law_2820 rfl 1 rfl ?_
        refine zr_iload C0 dL_law_2821 5 rfl ?_
        refine zr_iconst C0 (v := 1) dL_law_2823 (by decide) ?_
        refine zr_iadd C0 dL_law_2824 ?_
        obtain ⟨x946, e947, hf⟩ := zbind hf
        refine zr_iald C0 dL_law_2825 e947 ?_
        obtain ⟨_, e948, hf⟩ := zbind hf
        obtain ⟨x951, h949, e950, hf⟩ := zbind2 hf
        refine zr_callV_r C0 cv_X0_337_X6 rfl (zcko e948) (m_X6_status C0.2.2.2.2.2.2.1 e950) (by decide) (by decide) rfl rfl (Nat.le_of_ble_eq_true rfl) dL_law_2826 rfl ?_
        refine zr_istore (i := 6) (lv' := [(6, .int x951), (5, .int x945), (0, .ref p0), (1, .ref p1), (2, .ref p2), (3, .ref p3), (4, .int p4)]) C0 dL_law_2829 (by decide) (by first | rfl | simp [zst1, zst2, zcat_rf]) ?_
        refine zr_aload_n C0 dL_law_2831 rfl 4 rfl ?_
        obtain ⟨_, e952, hf⟩ := zbind hf
        obtain ⟨x955, h953, e954, hf⟩ := zbind2 hf
        refine zr_callV_r C0 cv_X0_214_X6 rfl (zcko e952) (m_X6_thrown C0.2.2.2.2.2.2.1 e954) (by decide) (by decide) rfl rfl (Nat.le_of_ble_eq_true rfl) dL_law_2832 rfl ?_
        refine zr_iload C0 dL_law_2835 1 rfl ?_
        refine zr_icmp_eq C0 (tgt := 2842) dL_law_2837 (by decide) (fun c956 => ?_) (fun c956 => ?_)
        · have hf := zif_t c956 hf
          refine zr_iload C0 dL_law_2842 1 rfl ?_
          refine zr_if_ne C0 (tgt := 2859) dL_law_2844 (by decide) (fun c957 => ?_) (fun c957 => ?_)
          · have hf := zif_f c957 hf
            refine zr_sub [2, 3, 4, 5, 6] rfl ?_
            exact w_L_law_b2859 C0 ih hf
          · have hf := zif_t c957 hf
            refine zr_aload_n C0 dL_law_2847 rfl 5 rfl ?_
            refine zr_iconst C0 (v := 0) dL_law_2848 (by decide) ?_
            obtain ⟨x958, e959, hf⟩ := zbind hf
            refine zr_lald C0 dL_law_2849 e959 ?_
            refine zr_iload C0 dL_law_2850 0 rfl ?_
            refine zr_i2l C0 dL_law_2852 ?_
            refine zr_lcmp C0 dL_law_2853 ?_
            refine zr_if_eq C0 (tgt := 2859) dL_law_2854 (by decide) (fun c960 => ?_) (fun c960 => ?_)
            · have hf := zif_t (zl_eq.mp c960) hf
              refine zr_sub [2, 3, 4, 5, 6] rfl ?_
              exact w_L_law_b2859 C0 ih hf
            · have hf := zif_f (zl_eqn.mp c960) hf
              refine zr_iconst C0 (v := 0) dL_law_2857 (by decide) ?_
              refine zretW hf ?_
              exact zr_iret C0 (ty := .boolean) rfl (by decide) dL_law_2858 rfl
        · have hf := zif_f c956 hf
          refine zr_iconst C0 (v := 0) dL_law_2840 (by decide) ?_
          refine zretW hf ?_
          exact zr_iret C0 (ty := .boolean) rfl (by decide) dL_law_2841 rfl
      have hf := zif_f c940 hf
      rcases Decidable.em ((x4 &&& (63 : Int32)) = 44) with c961 | c961
      · have hf := zif_t c961 hf
        refine zr_tableIn C0 (v := 44) (tgt := 2862) dL_law_40 c961 (by decide) (by decide) rfl (by decide) ?_
        refine zr_aload_n C0 dL_law_2862 rfl 1 rfl ?_
        obtain ⟨_, e962, hf⟩ := zbind hf
        obtain ⟨x965, h963, e964, hf⟩ := zbind2 hf
        refine zr_callV_r C0 cv_X0_338_X1 rfl (zcko e962) (m_X1_fundBalance C0.2.2.2.2.2.2.1 e964) (by decide) (by decide) rfl rfl (Nat.le_of_ble_eq_true rfl) dL_law_2863 rfl ?_
        refine zr_aload_n C0 dL_law_2866 rfl 2 rfl ?_
        obtain ⟨_, e966, hf⟩ := zbind hf
        obtain ⟨x969, h967, e968, hf⟩ := zbind2 hf
        refine zr_callV_r C0 cv_X0_341_X6 rfl (zcko e966) (m_X6_fundBalance C0.2.2.2.2.2.2.1 e968) (by decide) (by decide) rfl rfl (Nat.le_of_ble_eq_true rfl) dL_law_2867 rfl ?_
        refine zr_lcmp C0 dL_law_2870 ?_
        refine zr_if_eq C0 (tgt := 4006) dL_law_2871 (by decide) (fun c970 => ?_) (fun c970 => ?_)
        · have hf := zif_t (zl_eq.mp c970) hf
          exact w_L_law_b4006 C0 ih hf
        · have hf := zif_f (zl_eqn.mp c970) hf
          refine zr_iconst C0 (v := 0) dL_law_2874 (by decide) ?_
          refine zretW hf ?_
          exact zr_iret C0 (ty := .boolean) rfl (by decide) dL_law_2875 rfl
      have hf := zif_f c961 hf
      rcases Decidable.em ((x4 &&& (63 : Int32)) = 45) with c971 | c971
      · have hf := zif_t c971 hf
        refine zr_tableIn C0 (v := 45) (tgt := 2876) dL_law_40 c971 (by decide) (by decide) rfl (by decide) ?_
        refine zr_aload_n C0 dL_law_2876 rfl 1 rfl ?_
        refine zr_aload_n C0 dL_law_2877 rfl 0 rfl ?_
        refine zr_iload C0 dL_law_2878 4 rfl ?_
        refine zr_iconst C0 (v := 1) dL_law_2880 (by decide) ?_
        refine zr_iadd C0 dL_law_2881 ?_
        obtain ⟨x972, e973, hf⟩ := zbind hf
        refine zr_iald C0 dL_law_2882 e973 ?_
        refine zr_aload_n C0 dL_law_2883 rfl 3 rfl ?_
        obtain ⟨x976, h974, e975, hf⟩ := zbind2 hf
        refine zr_callSX_r C0 cv_X0_342 (m_X0_contributions C0.2.2.2.2.2.2.1 e975) (by decide) (by decide) rfl rfl (Nat.le_of_ble_eq_true rfl) dL_law_2884 rfl ?_
        refine zr_istore (i := 5) (lv' := [(5, .int x976), (0, .ref p0), (1, .ref p1), (2, .ref p2), (3, .ref p3), (4, .int p4)]) C0 dL_law_2887 (by decide) (by first | rfl | simp [zst1, zst2, zcat_rf]) ?_
        refine zr_aload_n C0 dL_law_2889 rfl 3 rfl ?_
        refine zr_aload_n C0 dL_law_2890 rfl 1 rfl ?_
        refine zr_iload C0 dL_law_2891 5 rfl ?_
        refine zr_iconst C0 (v := 1) dL_law_2893 (by decide) ?_
        refine zr_iadd C0 dL_law_2894 ?_
        obtain ⟨x977, e978, hf⟩ := zbind hf
        refine zr_iald C0 dL_law_2895 e978 ?_
        obtain ⟨_, e979, hf⟩ := zbind hf
        obtain ⟨x982, h980, e981, hf⟩ := zbind2 hf
        refine zr_callV_r C0 cv_X0_344_X6 rfl (zcko e979) (m_X6_contributions C0.2.2.2.2.2.2.1 e981) (by decide) (by decide) rfl rfl (Nat.le_of_ble_eq_true rfl) dL_law_2896 rfl ?_
        refine zr_lstore (i := 6) (lv' := [(6, .long x982), (5, .int x976), (0, .ref p0), (1, .ref p1), (2, .ref p2), (3, .ref p3), (4, .int p4)]) C0 dL_law_2899 (by decide) (by first | rfl | simp [zst1, zst2, zcat_rf]) ?_
        refine zr_aload_n C0 dL_law_2901 rfl 4 rfl ?_
        obtain ⟨_, e983, hf⟩ := zbind hf
        obtain ⟨x986, h984, e985, hf⟩ := zbind2 hf
        refine zr_callV_r C0 cv_X0_214_X6 rfl (zcko e983) (m_X6_thrown C0.2.2.2.2.2.2.1 e985) (by decide) (by decide) rfl rfl (Nat.le_of_ble_eq_true rfl) dL_law_2902 rfl ?_
        refine zr_iload C0 dL_law_2905 1 rfl ?_
        refine zr_icmp_eq C0 (tgt := 2912) dL_law_2907 (by decide) (fun c987 => ?_) (fun c987 => ?_)
        · have hf := zif_t c987 hf
          refine zr_iload C0 dL_law_2912 1 rfl ?_
          refine zr_if_ne C0 (tgt := 2928) dL_law_2914 (by decide) (fun c988 => ?_) (fun c988 => ?_)
          · have hf := zif_f c988 hf
            refine zr_sub [2, 3, 4, 5, 6] rfl ?_
            exact w_L_law_b2928 C0 ih hf
          · have hf := zif_t c988 hf
            refine zr_aload_n C0 dL_law_2917 rfl 5 rfl ?_
            refine zr_iconst C0 (v := 0) dL_law_2918 (by decide) ?_
            obtain ⟨x989, e990, hf⟩ := zbind hf
            refine zr_lald C0 dL_law_2919 e990 ?_
            refine zr_lload C0 dL_law_2920 0 rfl ?_
            refine zr_lcmp C0 dL_law_2922 ?_
            refine zr_if_eq C0 (tgt := 2928) dL_law_2923 (by decide) (fun c991 => ?_) (fun c991 => ?_)
            · have hf := zif_t (zl_eq.mp c991) hf
              refine zr_sub [2, 3, 4, 5, 6] rfl ?_
              exact w_L_law_b2928 C0 ih hf
            · have hf := zif_f (zl_eqn.mp c991) hf
              refine zr_iconst C0 (v := 0) dL_law_2926 (by decide) ?_
              refine zretW hf ?_
              exact zr_iret C0 (ty := .boolean) rfl (by decide) dL_law_2927 rfl
        · have hf := zif_f c987 hf
          refine zr_iconst C0 (v := 0) dL_law_2910 (by decide) ?_
          refine zretW hf ?_
          exact zr_iret C0 (ty := .boolean) rfl (by decide) dL_law_2911 rfl
      have hf := zif_f c971 hf
      rcases Decidable.em ((x4 &&& (63 : Int32)) = 46) with c992 | c992
      · have hf := zif_t c992 hf
        refine zr_tableIn C0 (v := 46) (tgt := 2931) dL_law_40 c992 (by decide) (by decide) rfl (by decide) ?_
        refine zr_aload_n C0 dL_law_2931 rfl 1 rfl ?_
        refine zr_aload_n C0 dL_law_2932 rfl 0 rfl ?_
        refine zr_iload C0 dL_law_2933 4 rfl ?_
        refine zr_iconst C0 (v := 1) dL_law_2935 (by decide) ?_
        refine zr_iadd C0 dL_law_2936 ?_
        obtain ⟨x993, e994, hf⟩ := zbind hf
        refine zr_iald C0 dL_law_2937 e994 ?_
        refine zr_aload_n C0 dL_law_2938 rfl 3 rfl ?_
        obtain ⟨x997, h995, e996, hf⟩ := zbind2 hf
        refine zr_callSX_r C0 cv_X0_345 (m_X0_spent C0.2.2.2.2.2.2.1 e996) (by decide) (by decide) rfl rfl (Nat.le_of_ble_eq_true rfl) dL_law_2939 rfl ?_
        refine zr_istore (i := 5) (lv' := [(5, .int x997), (0, .ref p0), (1, .ref p1), (2, .ref p2), (3, .ref p3), (4, .int p4)]) C0 dL_law_2942 (by decide) (by first | rfl | simp [zst1, zst2, zcat_rf]) ?_
        refine zr_aload_n C0 dL_law_2944 rfl 3 rfl ?_
        refine zr_aload_n C0 dL_law_2945 rfl 1 rfl ?_
        refine zr_iload C0 dL_law_2946 5 rfl ?_
        refine zr_iconst C0 (v := 1) dL_law_2948 (by decide) ?_
        refine zr_iadd C0 dL_law_2949 ?_
        obtain ⟨x998, e999, hf⟩ := zbind hf
        refine zr_iald C0 dL_law_2950 e999 ?_
        obtain ⟨_, e1000, hf⟩ := zbind hf
        obtain ⟨x1003, h1001, e1002, hf⟩ := zbind2 hf
        refine zr_callV_r C0 cv_X0_347_X6 rfl (zcko e1000) (m_X6_spent C0.2.2.2.2.2.2.1 e1002) (by decide) (by decide) rfl rfl (Nat.le_of_ble_eq_true rfl) dL_law_2951 rfl ?_
        refine zr_lstore (i := 6) (lv' := [(6, .long x1003), (5, .int x997), (0, .ref p0), (1, .ref p1), (2, .ref p2), (3, .ref p3), (4, .int p4)]) C0 dL_law_2954 (by decide) (by first | rfl | simp [zst1, zst2, zcat_rf]) ?_
        refine zr_aload_n C0 dL_law_2956 rfl 4 rfl ?_
        obtain ⟨_, e1004, hf⟩ := zbind hf
        obtain ⟨x1007, h1005, e1006, hf⟩ := zbind2 hf
        refine zr_callV_r C0 cv_X0_214_X6 rfl (zcko e1004) (m_X6_thrown C0.2.2.2.2.2.2.1 e1006) (by decide) (by decide) rfl rfl (Nat.le_of_ble_eq_true rfl) dL_law_2957 rfl ?_
        refine zr_iload C0 dL_law_2960 1 rfl ?_
        refine zr_icmp_eq C0 (tgt := 2967) dL_law_2962 (by decide) (fun c1008 => ?_) (fun c1008 => ?_)
        · have hf := zif_t c1008 hf
          refine zr_iload C0 dL_law_2967 1 rfl ?_
          refine zr_if_ne C0 (tgt := 2983) dL_law_2969 (by decide) (fun c1009 => ?_) (fun c1009 => ?_)
          · have hf := zif_f c1009 hf
            refine zr_sub [2, 3, 4, 5, 6] rfl ?_
            exact w_L_law_b2983 C0 ih hf
          · have hf := zif_t c1009 hf
            refine zr_aload_n C0 dL_law_2972 rfl 5 rfl ?_
            refine zr_iconst C0 (v := 0) dL_law_2973 (by decide) ?_
            obtain ⟨x1010, e1011, hf⟩ := zbind hf
            refine zr_lald C0 dL_law_2974 e1011 ?_
            refine zr_lload C0 dL_law_2975 0 rfl ?_
            refine zr_lcmp C0 dL_law_2977 ?_
            refine zr_if_eq C0 (tgt := 2983) dL_law_2978 (by decide) (fun c1012 => ?_) (fun c1012 => ?_)
            · have hf := zif_t (zl_eq.mp c1012) hf
              refine zr_sub [2, 3, 4, 5, 6] rfl ?_
              exact w_L_law_b2983 C0 ih hf
            · have hf := zif_f (zl_eqn.mp c1012) hf
              refine zr_iconst C0 (v := 0) dL_law_2981 (by decide) ?_
              refine zretW hf ?_
              exact zr_iret C0 (ty := .boolean) rfl (by decide) dL_law_2982 rfl
        · have hf := zif_f c1008 hf
          refine zr_iconst C0 (v := 0) dL_law_2965 (by decide) ?_
          refine zretW hf ?_
          exact zr_iret C0 (ty := .boolean) rfl (by decide) dL_law_2966 rfl
      have hf := zif_f c992 hf
      rcases Decidable.em ((x4 &&& (63 : Int32)) = 47) with c1013 | c1013
      · have hf := zif_t c1013 hf
        refine zr_tableIn C0 (v := 47) (tgt := 2986) dL_law_40 c1013 (by decide) (by decide) rfl (by decide) ?_
        refine zr_aload_n C0 dL_law_2986 rfl 1 rfl ?_
        refine zr_aload_n C0 dL_law_2987 rfl 0 rfl ?_
        refine zr_iload C0 dL_law_2988 4 rfl ?_
        refine zr_iconst C0 (v := 1) dL_law_2990 (by decide) ?_
        refine zr_iadd C0 dL_law_2991 ?_
        obtain ⟨x1014, e1015, hf⟩ := zbind hf
        refine zr_iald C0 dL_law_2992 e1015 ?_
        refine zr_i2l C0 dL_law_2993 ?_
        refine zr_bipush C0 (v := 32) dL_law_2994 (by decide) ?_
        refine zr_lshl C0 dL_law_2996 ?_
        refine zr_aload_n C0 dL_law_2997 rfl 0 rfl ?_
        refine zr_iload C0 dL_law_2998 4 rfl ?_
        refine zr_iconst C0 (v := 2) dL_law_3000 (by decide) ?_
        refine zr_iadd C0 dL_law_3001 ?_
        obtain ⟨x1016, e1017, hf⟩ := zbind hf
        refine zr_iald C0 dL_law_3002 e1017 ?_
        refine zr_i2l C0 dL_law_3003 ?_
        refine zr_ldc2 C0 (v := 4294967295) q3235 dL_law_3004 ?_
        refine zr_land C0 dL_law_3007 ?_
        refine zr_lor C0 dL_law_3008 ?_
        refine zr_aload_n C0 dL_law_3009 rfl 3 rfl ?_
        obtain ⟨x1020, h1018, e1019, hf⟩ := zbind2 hf
        refine zr_callSX_r C0 cv_X0_348 (m_X0_campaign C0.2.2.2.2.2.2.1 e1019) (by decide) (by decide) rfl rfl (Nat.le_of_ble_eq_true rfl) dL_law_3010 rfl ?_
        refine zr_istore (i := 5) (lv' := [(5, .int x1020), (0, .ref p0), (1, .ref p1), (2, .ref p2), (3, .ref p3), (4, .int p4)]) C0 dL_law_3013 (by decide) (by first | rfl | simp [zst1, zst2, zcat_rf]) ?_
        refine zr_aload_n C0 dL_law_3015 rfl 3 rfl ?_
        refine zr_aload_n C0 dL_law_3016 rfl 1 rfl ?_
        refine zr_iload C0 dL_law_3017 5 rfl ?_
        refine zr_iconst C0 (v := 1) dL_law_3019 (by decide) ?_
        refine zr_iadd C0 dL_law_3020 ?_
        obtain ⟨x1021, e1022, hf⟩ := zbind hf
        refine zr_iald C0 dL_law_3021 e1022 ?_
        refine zr_i2l C0 dL_law_3022 ?_
        refine zr_bipush C0 (v := 32) dL_law_3023 (by decide) ?_
        refine zr_lshl C0 dL_law_3025 ?_
        refine zr_aload_n C0 dL_law_3026 rfl 1 rfl ?_
        refine zr_iload C0 dL_law_3027 5 rfl ?_
        refine zr_iconst C0 (v := 2) dL_law_3029 (by decide) ?_
        refine zr_iadd C0 dL_law_3030 ?_
        obtain ⟨x1023, e1024, hf⟩ := zbind hf
        refine zr_iald C0 dL_law_3031 e1024 ?_
        refine zr_i2l C0 dL_law_3032 ?_
        refine zr_ldc2 C0 (v := 4294967295) q3235 dL_law_3033 ?_
        refine zr_land C0 dL_law_3036 ?_
        refine zr_lor C0 dL_law_3037 ?_
        obtain ⟨_, e1025, hf⟩ := zbind hf
        obtain ⟨x1028, h1026, e1027, hf⟩ := zbind2 hf
        refine zr_callV_r C0 cv_X0_351_X6 rfl (zcko e1025) (m_X6_campaign C0.2.2.2.2.2.2.1 e1027) (by decide) (by decide) rfl rfl (Nat.le_of_ble_eq_true rfl) dL_law_3038 rfl ?_
        refine zr_istore (i := 6) (lv' := [(6, .int x1028), (5, .int x1020), (0, .ref p0), (1, .ref p1), (2, .ref p2), (3, .ref p3), (4, .int p4)]) C0 dL_law_3041 (by decide) (by first | rfl | simp [zst1, zst2, zcat_rf]) ?_
        refine zr_aload_n C0 dL_law_3043 rfl 4 rfl ?_
        obtain ⟨_, e1029, hf⟩ := zbind hf
        obtain ⟨x1032, h1030, e1031, hf⟩ := zbind2 hf
        refine zr_callV_r C0 cv_X0_214_X6 rfl (zcko e1029) (m_X6_thrown C0.2.2.2.2.2.2.1 e1031) (by decide) (by decide) rfl rfl (Nat.le_of_ble_eq_true rfl) dL_law_3044 rfl ?_
        refine zr_iload C0 dL_law_3047 1 rfl ?_
        refine zr_icmp_eq C0 (tgt := 3054) dL_law_3049 (by decide) (fun c1033 => ?_) (fun c1033 => ?_)
        · have hf := zif_t c1033 hf
          refine zr_iload C0 dL_law_3054 1 rfl ?_
          refine zr_if_ne C0 (tgt := 3078) dL_law_3056 (by decide) (fun c1034 => ?_) (fun c1034 => ?_)
          · have hf := zif_f c1034 hf
            refine zr_sub [2, 3, 4, 5, 6] rfl ?_
            exact w_L_law_b3078 C0 ih hf
          · have hf := zif_t c1034 hf
            refine zr_aload_n C0 dL_law_3059 rfl 5 rfl ?_
            refine zr_iconst C0 (v := 0) dL_law_3060 (by decide) ?_
            obtain ⟨x1035, e1036, hf⟩ := zbind hf
            refine zr_lald C0 dL_law_3061 e1036 ?_
            refine zr_iload C0 dL_law_3062 0 rfl ?_
            refine zr_if_eq C0 (tgt := 3071) dL_law_3064 (by decide) (fun c1037 => ?_) (fun c1037 => ?_)
            · have hf := zif_t c1037 hf
              refine zr_lconst C0 (v := 0) dL_law_3071 (by decide) ?_
              refine zr_sub [2, 3, 4, 5, 6] rfl ?_
              exact w_L_law_b3072 C0 ih hf
            · have hf := zif_f c1037 hf
              refine zr_lconst C0 (v := 1) dL_law_3067 (by decide) ?_
              refine zr_goto C0 (tgt := 3072) dL_law_3068 (by decide) ?_
              refine zr_sub [2, 3, 4, 5, 6] rfl ?_
              exact w_L_law_b3072 C0 ih hf
        · have hf := zif_f c1033 hf
          refine zr_iconst C0 (v := 0) dL_law_3052 (by decide) ?_
          refine zretW hf ?_
          exact zr_iret C0 (ty := .boolean) rfl (by decide) dL_law_3053 rfl
      have hf := zif_f c1013 hf
      rcases Decidable.em ((x4 &&& (63 : Int32)) = 48) with c1038 | c1038
      · have hf := zif_t c1038 hf
        refine zr_tableIn C0 (v := 48) (tgt := 3081) dL_law_40 c1038 (by decide) (by decide) rfl (by decide) ?_
        refine zr_aload_n C0 dL_law_3081 rfl 1 rfl ?_
        refine zr_aload_n C0 dL_law_3082 rfl 0 rfl ?_
        refine zr_iload C0 dL_law_3083 4 rfl ?_
        refine zr_iconst C0 (v := 1) dL_law_3085 (by decide) ?_
        refine zr_iadd C0 dL_law_3086 ?_
        obtain ⟨x1039, e1040, hf⟩ := zbind hf
        refine zr_iald C0 dL_law_3087 e1040 ?_
        refine zr_aload_n C0 dL_law_3088 rfl 0 rfl ?_
        refine zr_iload C0 dL_law_3089 4 rfl ?_
        refine zr_iconst C0 (v := 2) dL_law_3091 (by decide) ?_
        refine zr_iadd C0 dL_law_3092 ?_
        obtain ⟨x1041, e1042, hf⟩ := zbind hf
        refine zr_iald C0 dL_law_3093 e1042 ?_
        refine zr_i2l C0 dL_law_3094 ?_
        refine zr_bipush C0 (v := 32) dL_law_3095 (by decide) ?_
        refine zr_lshl C0 dL_law_3097 ?_
        refine zr_aload_n C0 dL_law_3098 rfl 0 rfl ?_
        refine zr_iload C0 dL_law_3099 4 rfl ?_
        refine zr_iconst C0 (v := 3) dL_law_3101 (by decide) ?_
        refine zr_iadd C0 dL_law_3102 ?_
        obtain ⟨x1043, e1044, hf⟩ := zbind hf
        refine zr_iald C0 dL_law_3103 e1044 ?_
        refine zr_i2l C0 dL_law_3104 ?_
        refine zr_ldc2 C0 (v := 4294967295) q3235 dL_law_3105 ?_
        refine zr_land C0 dL_law_3108 ?_
        refine zr_lor C0 dL_law_3109 ?_
        refine zr_aload_n C0 dL_law_3110 rfl 3 rfl ?_
        obtain ⟨x1047, h1045, e1046, hf⟩ := zbind2 hf
        refine zr_callSX_r C0 cv_X0_352 (m_X0_grant C0.2.2.2.2.2.2.1 e1046) (by decide) (by decide) rfl rfl (Nat.le_of_ble_eq_true rfl) dL_law_3111 rfl ?_
        refine zr_istore (i := 5) (lv' := [(5, .int x1047), (0, .ref p0), (1, .ref p1), (2, .ref p2), (3, .ref p3), (4, .int p4)]) C0 dL_law_3114 (by decide) (by first | rfl | simp [zst1, zst2, zcat_rf]) ?_
        refine zr_aload_n C0 dL_law_3116 rfl 3 rfl ?_
        refine zr_aload_n C0 dL_law_3117 rfl 1 rfl ?_
        refine zr_iload C0 dL_law_3118 5 rfl ?_
        refine zr_iconst C0 (v := 1) dL_law_3120 (by decide) ?_
        refine zr_iadd C0 dL_law_3121 ?_
        obtain ⟨x1048, e1049, hf⟩ := zbind hf
        refine zr_iald C0 dL_law_3122 e1049 ?_
        refine zr_aload_n C0 dL_law_3123 rfl 1 rfl ?_
        refine zr_iload C0 dL_law_3124 5 rfl ?_
        refine zr_iconst C0 (v := 2) dL_law_3126 (by decide) ?_
        refine zr_iadd C0 dL_law_3127 ?_
        obtain ⟨x1050, e1051, hf⟩ := zbind hf
        refine zr_iald C0 dL_law_3128 e1051 ?_
        refine zr_i2l C0 dL_law_3129 ?_
        refine zr_bipush C0 (v := 32) dL_law_3130 (by decide) ?_
        refine zr_lshl C0 dL_law_3132 ?_
        refine zr_aload_n C0 dL_law_3133 rfl 1 rfl ?_
        refine zr_iload C0 dL_law_3134 5 rfl ?_
        refine zr_iconst C0 (v := 3) dL_law_3136 (by decide) ?_
        refine zr_iadd C0 dL_law_3137 ?_
        obtain ⟨x1052, e1053, hf⟩ := zbind hf
        refine zr_iald C0 dL_law_3138 e1053 ?_
        refine zr_i2l C0 dL_law_3139 ?_
        refine zr_ldc2 C0 (v := 4294967295) q3235 dL_law_3140 ?_
        refine zr_land C0 dL_law_3143 ?_
        refine zr_lor C0 dL_law_3144 ?_
        obtain ⟨_, e1054, hf⟩ := zbind hf
        obtain ⟨x1057, h1055, e1056, hf⟩ := zbind2 hf
        refine zr_callV_r C0 cv_X0_354_X6 rfl (zcko e1054) (m_X6_grant C0.2.2.2.2.2.2.1 e1056) (by decide) (by decide) rfl rfl (Nat.le_of_ble_eq_true rfl) dL_law_3145 rfl ?_
        refine zr_istore (i := 6) (lv' := [(6, .int x1057), (5, .int x1047), (0, .ref p0), (1, .ref p1), (2, .ref p2), (3, .ref p3), (4, .int p4)]) C0 dL_law_3148 (by decide) (by first | rfl | simp [zst1, zst2, zcat_rf]) ?_
        refine zr_aload_n C0 dL_law_3150 rfl 4 rfl ?_
        obtain ⟨_, e1058, hf⟩ := zbind hf
        obtain ⟨x1061, h1059, e1060, hf⟩ := zbind2 hf
        refine zr_callV_r C0 cv_X0_214_X6 rfl (zcko e1058) (m_X6_thrown C0.2.2.2.2.2.2.1 e1060) (by decide) (by decide) rfl rfl (Nat.le_of_ble_eq_true rfl) dL_law_3151 rfl ?_
        refine zr_iload C0 dL_law_3154 1 rfl ?_
        refine zr_icmp_eq C0 (tgt := 3161) dL_law_3156 (by decide) (fun c1062 => ?_) (fun c1062 => ?_)
        · have hf := zif_t c1062 hf
          refine zr_iload C0 dL_law_3161 1 rfl ?_
          refine zr_if_ne C0 (tgt := 3185) dL_law_3163 (by decide) (fun c1063 => ?_) (fun c1063 => ?_)
          · have hf := zif_f c1063 hf
            refine zr_sub [2, 3, 4, 5, 6] rfl ?_
            exact w_L_law_b3185 C0 ih hf
          · have hf := zif_t c1063 hf
            refine zr_aload_n C0 dL_law_3166 rfl 5 rfl ?_
            refine zr_iconst C0 (v := 0) dL_law_3167 (by decide) ?_
            obtain ⟨x1064, e1065, hf⟩ := zbind hf
            refine zr_lald C0 dL_law_3168 e1065 ?_
            refine zr_iload C0 dL_law_3169 0 rfl ?_
            refine zr_if_eq C0 (tgt := 3178) dL_law_3171 (by decide) (fun c1066 => ?_) (fun c1066 => ?_)
            · have hf := zif_t c1066 hf
              refine zr_lconst C0 (v := 0) dL_law_3178 (by decide) ?_
              refine zr_sub [2, 3, 4, 5, 6] rfl ?_
              exact w_L_law_b3179 C0 ih hf
            · have hf := zif_f c1066 hf
              refine zr_lconst C0 (v := 1) dL_law_3174 (by decide) ?_
              refine zr_goto C0 (tgt := 3179) dL_law_3175 (by decide) ?_
              refine zr_sub [2, 3, 4, 5, 6] rfl ?_
              exact w_L_law_b3179 C0 ih hf
        · have hf := zif_f c1062 hf
          refine zr_iconst C0 (v := 0) dL_law_3159 (by decide) ?_
          refine zretW hf ?_
          exact zr_iret C0 (ty := .boolean) rfl (by decide) dL_law_3160 rfl
      have hf := zif_f c1038 hf
      rcases Decidable.em ((x4 &&& (63 : Int32)) = 49) with c1067 | c1067
      · have hf := zif_t c1067 hf
        refine zr_tableIn C0 (v := 49) (tgt := 3188) dL_law_40 c1067 (by decide) (by decide) rfl (by decide) ?_
        refine zr_aload_n C0 dL_law_3188 rfl 1 rfl ?_
        refine zr_aload_n C0 dL_law_3189 rfl 0 rfl ?_
        refine zr_iload C0 dL_law_3190 4 rfl ?_
        refine zr_iconst C0 (v := 1) dL_law_3192 (by decide) ?_
        refine zr_iadd C0 dL_law_3193 ?_
        obtain ⟨x1068, e1069, hf⟩ := zbind hf
        refine zr_iald C0 dL_law_3194 e1069 ?_
        refine zr_aload_n C0 dL_law_3195 rfl 3 rfl ?_
        obtain ⟨x1072, h1070, e1071, hf⟩ := zbind2 hf
        refine zr_callSX_r C0 cv_X0_355 (m_X0_allowance C0.2.2.2.2.2.2.1 e1071) (by decide) (by decide) rfl rfl (Nat.le_of_ble_eq_true rfl) dL_law_3196 rfl ?_
        refine zr_istore (i := 5) (lv' := [(5, .int x1072), (0, .ref p0), (1, .ref p1), (2, .ref p2), (3, .ref p3), (4, .int p4)]) C0 dL_law_3199 (by decide) (by first | rfl | simp [zst1, zst2, zcat_rf]) ?_
        refine zr_aload_n C0 dL_law_3201 rfl 3 rfl ?_
        refine zr_aload_n C0 dL_law_3202 rfl 1 rfl ?_
        refine zr_iload C0 dL_law_3203 5 rfl ?_
        refine zr_iconst C0 (v := 1) dL_law_3205 (by decide) ?_
        refine zr_iadd C0 dL_law_3206 ?_
        obtain ⟨x1073, e1074, hf⟩ := zbind hf
        refine zr_iald C0 dL_law_3207 e1074 ?_
        obtain ⟨_, e1075, hf⟩ := zbind hf
        obtain ⟨x1078, h1076, e1077, hf⟩ := zbind2 hf
        refine zr_callV_r C0 cv_X0_357_X6 rfl (zcko e1075) (m_X6_allowance C0.2.2.2.2.2.2.1 e1077) (by decide) (by decide) rfl rfl (Nat.le_of_ble_eq_true rfl) dL_law_3208 rfl ?_
        refine zr_lstore (i := 6) (lv' := [(6, .long x1078), (5, .int x1072), (0, .ref p0), (1, .ref p1), (2, .ref p2), (3, .ref p3), (4, .int p4)]) C0 dL_law_3211 (by decide) (by first | rfl | simp [zst1, zst2, zcat_rf]) ?_
        refine zr_aload_n C0 dL_law_3213 rfl 4 rfl ?_
        obtain ⟨_, e1079, hf⟩ := zbind hf
        obtain ⟨x1082, h1080, e1081, hf⟩ := zbind2 hf
        refine zr_callV_r C0 cv_X0_214_X6 rfl (zcko e1079) (m_X6_thrown C0.2.2.2.2.2.2.1 e1081) (by decide) (by decide) rfl rfl (Nat.le_of_ble_eq_true rfl) dL_law_3214 rfl ?_
        refine zr_iload C0 dL_law_3217 1 rfl ?_
        refine zr_icmp_eq C0 (tgt := 3224) dL_law_3219 (by decide) (fun c1083 => ?_) (fun c1083 => ?_)
        · have hf := zif_t c1083 hf
          refine zr_iload C0 dL_law_3224 1 rfl ?_
          refine zr_if_ne C0 (tgt := 3240) dL_law_3226 (by decide) (fun c1084 => ?_) (fun c1084 => ?_)
          · have hf := zif_f c1084 hf
            refine zr_sub [2, 3, 4, 5, 6] rfl ?_
            exact w_L_law_b3240 C0 ih hf
          · have hf := zif_t c1084 hf
            refine zr_aload_n C0 dL_law_3229 rfl 5 rfl ?_
            refine zr_iconst C0 (v := 0) dL_law_3230 (by decide) ?_
            obtain ⟨x1085, e1086, hf⟩ := zbind hf
            refine zr_lald C0 dL_law_3231 e1086 ?_
            refine zr_lload C0 dL_law_3232 0 rfl ?_
            refine zr_lcmp C0 dL_law_3234 ?_
            refine zr_if_eq C0 (tgt := 3240) dL_law_3235 (by decide) (fun c1087 => ?_) (fun c1087 => ?_)
            · have hf := zif_t (zl_eq.mp c1087) hf
              refine zr_sub [2, 3, 4, 5, 6] rfl ?_
              exact w_L_law_b3240 C0 ih hf
            · have hf := zif_f (zl_eqn.mp c1087) hf
              refine zr_iconst C0 (v := 0) dL_law_3238 (by decide) ?_
              refine zretW hf ?_
              exact zr_iret C0 (ty := .boolean) rfl (by decide) dL_law_3239 rfl
        · have hf := zif_f c1083 hf
          refine zr_iconst C0 (v := 0) dL_law_3222 (by decide) ?_
          refine zretW hf ?_
          exact zr_iret C0 (ty := .boolean) rfl (by decide) dL_law_3223 rfl
      have hf := zif_f c1067 hf
      rcases Decidable.em ((x4 &&& (63 : Int32)) = 50) with c1088 | c1088
      · have hf := zif_t c1088 hf
        refine zr_tableIn C0 (v := 50) (tgt := 3243) dL_law_40 c1088 (by decide) (by decide) rfl (by decide) ?_
        refine zr_aload_n C0 dL_law_3243 rfl 1 rfl ?_
        refine zr_aload_n C0 dL_law_3244 rfl 0 rfl ?_
        refine zr_iload C0 dL_law_3245 4 rfl ?_
        refine zr_iconst C0 (v := 1) dL_law_3247 (by decide) ?_
        refine zr_iadd C0 dL_law_3248 ?_
        obtain ⟨x1089, e1090, hf⟩ := zbind hf
        refine zr_iald C0 dL_law_3249 e1090 ?_
        refine zr_aload_n C0 dL_law_3250 rfl 3 rfl ?_
        obtain ⟨x1093, h1091, e1092, hf⟩ := zbind2 hf
        refine zr_callSX_r C0 cv_X0_358 (m_X0_nationalShare C0.2.2.2.2.2.2.1 e1092) (by decide) (by decide) rfl rfl (Nat.le_of_ble_eq_true rfl) dL_law_3251 rfl ?_
        refine zr_istore (i := 5) (lv' := [(5, .int x1093), (0, .ref p0), (1, .ref p1), (2, .ref p2), (3, .ref p3), (4, .int p4)]) C0 dL_law_3254 (by decide) (by first | rfl | simp [zst1, zst2, zcat_rf]) ?_
        refine zr_aload_n C0 dL_law_3256 rfl 3 rfl ?_
        refine zr_aload_n C0 dL_law_3257 rfl 1 rfl ?_
        refine zr_iload C0 dL_law_3258 5 rfl ?_
        refine zr_iconst C0 (v := 1) dL_law_3260 (by decide) ?_
        refine zr_iadd C0 dL_law_3261 ?_
        obtain ⟨x1094, e1095, hf⟩ := zbind hf
        refine zr_iald C0 dL_law_3262 e1095 ?_
        obtain ⟨_, e1096, hf⟩ := zbind hf
        obtain ⟨x1099, h1097, e1098, hf⟩ := zbind2 hf
        refine zr_callV_r C0 cv_X0_360_X6 rfl (zcko e1096) (m_X6_nationalShare C0.2.2.2.2.2.2.1 e1098) (by decide) (by decide) rfl rfl (Nat.le_of_ble_eq_true rfl) dL_law_3263 rfl ?_
        refine zr_lstore (i := 6) (lv' := [(6, .long x1099), (5, .int x1093), (0, .ref p0), (1, .ref p1), (2, .ref p2), (3, .ref p3), (4, .int p4)]) C0 dL_law_3266 (by decide) (by first | rfl | simp [zst1, zst2, zcat_rf]) ?_
        refine zr_aload_n C0 dL_law_3268 rfl 4 rfl ?_
        obtain ⟨_, e1100, hf⟩ := zbind hf
        obtain ⟨x1103, h1101, e1102, hf⟩ := zbind2 hf
        refine zr_callV_r C0 cv_X0_214_X6 rfl (zcko e1100) (m_X6_thrown C0.2.2.2.2.2.2.1 e1102) (by decide) (by decide) rfl rfl (Nat.le_of_ble_eq_true rfl) dL_law_3269 rfl ?_
        refine zr_iload C0 dL_law_3272 1 rfl ?_
        refine zr_icmp_eq C0 (tgt := 3279) dL_law_3274 (by decide) (fun c1104 => ?_) (fun c1104 => ?_)
        · have hf := zif_t c1104 hf
          refine zr_iload C0 dL_law_3279 1 rfl ?_
          refine zr_if_ne C0 (tgt := 3295) dL_law_3281 (by decide) (fun c1105 => ?_) (fun c1105 => ?_)
          · have hf := zif_f c1105 hf
            refine zr_sub [2, 3, 4, 5, 6] rfl ?_
            exact w_L_law_b3295 C0 ih hf
          · have hf := zif_t c1105 hf
            refine zr_aload_n C0 dL_law_3284 rfl 5 rfl ?_
            refine zr_iconst C0 (v := 0) dL_law_3285 (by decide) ?_
            obtain ⟨x1106, e1107, hf⟩ := zbind hf
            refine zr_lald C0 dL_law_3286 e1107 ?_
            refine zr_lload C0 dL_law_3287 0 rfl ?_
            refine zr_lcmp C0 dL_law_3289 ?_
            refine zr_if_eq C0 (tgt := 3295) dL_law_3290 (by decide) (fun c1108 => ?_) (fun c1108 => ?_)
            · have hf := zif_t (zl_eq.mp c1108) hf
              refine zr_sub [2, 3, 4, 5, 6] rfl ?_
              exact w_L_law_b3295 C0 ih hf
            · have hf := zif_f (zl_eqn.mp c1108) hf
              refine zr_iconst C0 (v := 0) dL_law_3293 (by decide) ?_
              refine zretW hf ?_
              exact zr_iret C0 (ty := .boolean) rfl (by decide) dL_law_3294 rfl
        · have hf := zif_f c1104 hf
          refine zr_iconst C0 (v := 0) dL_law_3277 (by decide) ?_
          refine zretW hf ?_
          exact zr_iret C0 (ty := .boolean) rfl (by decide) dL_law_3278 rfl
      have hf := zif_f c1088 hf
      rcases Decidable.em ((x4 &&& (63 : Int32)) = 51) with c1109 | c1109
      · have hf := zif_t c1109 hf
        refine zr_tableIn C0 (v := 51) (tgt := 3298) dL_law_40 c1109 (by decide) (by decide) rfl (by decide) ?_
        refine zr_aload_n C0 dL_law_3298 rfl 1 rfl ?_
        refine zr_aload_n C0 dL_law_3299 rfl 0 rfl ?_
        refine zr_iload C0 dL_law_3300 4 rfl ?_
        refine zr_iconst C0 (v := 1) dL_law_3302 (by decide) ?_
        refine zr_iadd C0 dL_law_3303 ?_
        obtain ⟨x1110, e1111, hf⟩ := zbind hf
        refine zr_iald C0 dL_law_3304 e1111 ?_
        refine zr_aload_n C0 dL_law_3305 rfl 0 rfl ?_
        refine zr_iload C0 dL_law_3306 4 rfl ?_
        refine zr_iconst C0 (v := 2) dL_law_3308 (by decide) ?_
        refine zr_iadd C0 dL_law_3309 ?_
        obtain ⟨x1112, e1113, hf⟩ := zbind hf
        refine zr_iald C0 dL_law_3310 e1113 ?_
        refine zr_aload_n C0 dL_law_3311 rfl 0 rfl ?_
        refine zr_iload C0 dL_law_3312 4 rfl ?_
        refine zr_iconst C0 (v := 3) dL_law_3314 (by decide) ?_
        refine zr_iadd C0 dL_law_3315 ?_
        obtain ⟨x1114, e1115, hf⟩ := zbind hf
        refine zr_iald C0 dL_law_3316 e1115 ?_
        refine zr_i2l C0 dL_law_3317 ?_
        refine zr_bipush C0 (v := 32) dL_law_3318 (by decide) ?_
        refine zr_lshl C0 dL_law_3320 ?_
        refine zr_aload_n C0 dL_law_3321 rfl 0 rfl ?_
        refine zr_iload C0 dL_law_3322 4 rfl ?_
        refine zr_iconst C0 (v := 4) dL_law_3324 (by decide) ?_
        refine zr_iadd C0 dL_law_3325 ?_
        obtain ⟨x1116, e1117, hf⟩ := zbind hf
        refine zr_iald C0 dL_law_3326 e1117 ?_
        refine zr_i2l C0 dL_law_3327 ?_
        refine zr_ldc2 C0 (v := 4294967295) q3235 dL_law_3328 ?_
        refine zr_land C0 dL_law_3331 ?_
        refine zr_lor C0 dL_law_3332 ?_
        refine zr_aload_n C0 dL_law_3333 rfl 3 rfl ?_
        obtain ⟨x1120, h1118, e1119, hf⟩ := zbind2 hf
        refine zr_callSX_r C0 cv_X0_361 (m_X0_requestTransfer C0.2.2.2.2.2.2.1 e1119) (by decide) (by decide) rfl rfl (Nat.le_of_ble_eq_true rfl) dL_law_3334 rfl ?_
        refine zr_istore (i := 5) (lv' := [(5, .int x1120), (0, .ref p0), (1, .ref p1), (2, .ref p2), (3, .ref p3), (4, .int p4)]) C0 dL_law_3337 (by decide) (by first | rfl | simp [zst1, zst2, zcat_rf]) ?_
        refine zr_aload_n C0 dL_law_3339 rfl 3 rfl ?_
        refine zr_aload_n C0 dL_law_3340 rfl 1 rfl ?_
        refine zr_iload C0 dL_law_3341 5 rfl ?_
        refine zr_iconst C0 (v := 1) dL_law_3343 (by decide) ?_
        refine zr_iadd C0 dL_law_3344 ?_
        obtain ⟨x1121, e1122, hf⟩ := zbind hf
        refine zr_iald C0 dL_law_3345 e1122 ?_
        refine zr_aload_n C0 dL_law_3346 rfl 1 rfl ?_
        refine zr_iload C0 dL_law_3347 5 rfl ?_
        refine zr_iconst C0 (v := 2) dL_law_3349 (by decide) ?_
        refine zr_iadd C0 dL_law_3350 ?_
        obtain ⟨x1123, e1124, hf⟩ := zbind hf
        refine zr_iald C0 dL_law_3351 e1124 ?_
        refine zr_aload_n C0 dL_law_3352 rfl 1 rfl ?_
        refine zr_iload C0 dL_law_3353 5 rfl ?_
        refine zr_iconst C0 (v := 3) dL_law_3355 (by decide) ?_
        refine zr_iadd C0 dL_law_3356 ?_
        obtain ⟨x1125, e1126, hf⟩ := zbind hf
        refine zr_iald C0 dL_law_3357 e1126 ?_
        refine zr_i2l C0 dL_law_3358 ?_
        refine zr_bipush C0 (v := 32) dL_law_3359 (by decide) ?_
        refine zr_lshl C0 dL_law_3361 ?_
        refine zr_aload_n C0 dL_law_3362 rfl 1 rfl ?_
        refine zr_iload C0 dL_law_3363 5 rfl ?_
        refine zr_iconst C0 (v := 4) dL_law_3365 (by decide) ?_
        refine zr_iadd C0 dL_law_3366 ?_
        obtain ⟨x1127, e1128, hf⟩ := zbind hf
        refine zr_iald C0 dL_law_3367 e1128 ?_
        refine zr_i2l C0 dL_law_3368 ?_
        refine zr_ldc2 C0 (v := 4294967295) q3235 dL_law_3369 ?_
        refine zr_land C0 dL_law_3372 ?_
        refine zr_lor C0 dL_law_3373 ?_
        obtain ⟨_, e1129, hf⟩ := zbind hf
        obtain ⟨x1132, h1130, e1131, hf⟩ := zbind2 hf
        refine zr_callV_r C0 cv_X0_364_X6 rfl (zcko e1129) (m_X6_requestTransfer C0.2.2.2.2.2.2.1 e1131) (by decide) (by decide) rfl rfl (Nat.le_of_ble_eq_true rfl) dL_law_3374 rfl ?_
        refine zr_istore (i := 6) (lv' := [(6, .int x1132), (5, .int x1120), (0, .ref p0), (1, .ref p1), (2, .ref p2), (3, .ref p3), (4, .int p4)]) C0 dL_law_3377 (by decide) (by first | rfl | simp [zst1, zst2, zcat_rf]) ?_
        refine zr_aload_n C0 dL_law_3379 rfl 4 rfl ?_
        obtain ⟨_, e1133, hf⟩ := zbind hf
        obtain ⟨x1136, h1134, e1135, hf⟩ := zbind2 hf
        refine zr_callV_r C0 cv_X0_214_X6 rfl (zcko e1133) (m_X6_thrown C0.2.2.2.2.2.2.1 e1135) (by decide) (by decide) rfl rfl (Nat.le_of_ble_eq_true rfl) dL_law_3380 rfl ?_
        refine zr_iload C0 dL_law_3383 1 rfl ?_
        refine zr_icmp_eq C0 (tgt := 3390) dL_law_3385 (by decide) (fun c1137 => ?_) (fun c1137 => ?_)
        · have hf := zif_t c1137 hf
          refine zr_iload C0 dL_law_3390 1 rfl ?_
          refine zr_if_ne C0 (tgt := 3414) dL_law_3392 (by decide) (fun c1138 => ?_) (fun c1138 => ?_)
          · have hf := zif_f c1138 hf
            refine zr_sub [2, 3, 4, 5, 6] rfl ?_
            exact w_L_law_b3414 C0 ih hf
          · have hf := zif_t c1138 hf
            refine zr_aload_n C0 dL_law_3395 rfl 5 rfl ?_
            refine zr_iconst C0 (v := 0) dL_law_3396 (by decide) ?_
            obtain ⟨x1139, e1140, hf⟩ := zbind hf
            refine zr_lald C0 dL_law_3397 e1140 ?_
            refine zr_iload C0 dL_law_3398 0 rfl ?_
            refine zr_if_eq C0 (tgt := 3407) dL_law_3400 (by decide) (fun c1141 => ?_) (fun c1141 => ?_)
            · have hf := zif_t c1141 hf
              refine zr_lconst C0 (v := 0) dL_law_3407 (by decide) ?_
              refine zr_sub [2, 3, 4, 5, 6] rfl ?_
              exact w_L_law_b3408 C0 ih hf
            · have hf := zif_f c1141 hf
              refine zr_lconst C0 (v := 1) dL_law_3403 (by decide) ?_
              refine zr_goto C0 (tgt := 3408) dL_law_3404 (by decide) ?_
              refine zr_sub [2, 3, 4, 5, 6] rfl ?_
              exact w_L_law_b3408 C0 ih hf
        · have hf := zif_f c1137 hf
          refine zr_iconst C0 (v := 0) dL_law_3388 (by decide) ?_
          refine zretW hf ?_
          exact zr_iret C0 (ty := .boolean) rfl (by decide) dL_law_3389 rfl
      have hf := zif_f c1109 hf
      rcases Decidable.em ((x4 &&& (63 : Int32)) = 52) with c1142 | c1142
      · have hf := zif_t c1142 hf
        refine zr_tableIn C0 (v := 52) (tgt := 3417) dL_law_40 c1142 (by decide) (by decide) rfl (by decide) ?_
        refine zr_aload_n C0 dL_law_3417 rfl 1 rfl ?_
        refine zr_aload_n C0 dL_law_3418 rfl 0 rfl ?_
        refine zr_iload C0 dL_law_3419 4 rfl ?_
        refine zr_iconst C0 (v := 1) dL_law_3421 (by decide) ?_
        refine zr_iadd C0 dL_law_3422 ?_
        obtain ⟨x1143, e1144, hf⟩ := zbind hf
        refine zr_iald C0 dL_law_3423 e1144 ?_
        refine zr_aload_n C0 dL_law_3424 rfl 0 rfl ?_
        refine zr_iload C0 dL_law_3425 4 rfl ?_
        refine zr_iconst C0 (v := 2) dL_law_3427 (by decide) ?_
        refine zr_iadd C0 dL_law_3428 ?_
        obtain ⟨x1145, e1146, hf⟩ := zbind hf
        refine zr_iald C0 dL_law_3429 e1146 ?_
        refine zr_aload_n C0 dL_law_3430 rfl 0 rfl ?_
        refine zr_iload C0 dL_law_3431 4 rfl ?_
        refine zr_iconst C0 (v := 3) dL_law_3433 (by decide) ?_
        refine zr_iadd C0 dL_law_3434 ?_
        obtain ⟨x1147, e1148, hf⟩ := zbind hf
        refine zr_iald C0 dL_law_3435 e1148 ?_
        refine zr_if_eq C0 (tgt := 3443) dL_law_3436 (by decide) (fun c1149 => ?_) (fun c1149 => ?_)
        · have hf := zif_t c1149 hf
          refine zr_iconst C0 (v := 0) dL_law_3443 (by decide) ?_
          exact w_L_law_b3444 C0 ih hf
        · have hf := zif_f c1149 hf
          refine zr_iconst C0 (v := 1) dL_law_3439 (by decide) ?_
          refine zr_goto C0 (tgt := 3444) dL_law_3440 (by decide) ?_
          exact w_L_law_b3444 C0 ih hf
      have hf := zif_f c1142 hf
      rcases Decidable.em ((x4 &&& (63 : Int32)) = 53) with c1150 | c1150
      · have hf := zif_t c1150 hf
        refine zr_tableIn C0 (v := 53) (tgt := 3513) dL_law_40 c1150 (by decide) (by decide) rfl (by decide) ?_
        refine zr_aload_n C0 dL_law_3513 rfl 1 rfl ?_
        refine zr_aload_n C0 dL_law_3514 rfl 0 rfl ?_
        refine zr_iload C0 dL_law_3515 4 rfl ?_
        refine zr_iconst C0 (v := 1) dL_law_3517 (by decide) ?_
        refine zr_iadd C0 dL_law_3518 ?_
        obtain ⟨x1151, e1152, hf⟩ := zbind hf
        refine zr_iald C0 dL_law_3519 e1152 ?_
        refine zr_aload_n C0 dL_law_3520 rfl 3 rfl ?_
        obtain ⟨x1155, h1153, e1154, hf⟩ := zbind2 hf
        refine zr_callSX_r C0 cv_X0_369 (m_X0_exercise C0.2.2.2.2.2.2.1 e1154) (by decide) (by decide) rfl rfl (Nat.le_of_ble_eq_true rfl) dL_law_3521 rfl ?_
        refine zr_istore (i := 5) (lv' := [(5, .int x1155), (0, .ref p0), (1, .ref p1), (2, .ref p2), (3, .ref p3), (4, .int p4)]) C0 dL_law_3524 (by decide) (by first | rfl | simp [zst1, zst2, zcat_rf]) ?_
        refine zr_aload_n C0 dL_law_3526 rfl 3 rfl ?_
        refine zr_aload_n C0 dL_law_3527 rfl 1 rfl ?_
        refine zr_iload C0 dL_law_3528 5 rfl ?_
        refine zr_iconst C0 (v := 1) dL_law_3530 (by decide) ?_
        refine zr_iadd C0 dL_law_3531 ?_
        obtain ⟨x1156, e1157, hf⟩ := zbind hf
        refine zr_iald C0 dL_law_3532 e1157 ?_
        obtain ⟨_, e1158, hf⟩ := zbind hf
        obtain ⟨x1161, h1159, e1160, hf⟩ := zbind2 hf
        refine zr_callV_r C0 cv_X0_371_X6 rfl (zcko e1158) (m_X6_exercise C0.2.2.2.2.2.2.1 e1160) (by decide) (by decide) rfl rfl (Nat.le_of_ble_eq_true rfl) dL_law_3533 rfl ?_
        refine zr_istore (i := 6) (lv' := [(6, .int x1161), (5, .int x1155), (0, .ref p0), (1, .ref p1), (2, .ref p2), (3, .ref p3), (4, .int p4)]) C0 dL_law_3536 (by decide) (by first | rfl | simp [zst1, zst2, zcat_rf]) ?_
        refine zr_aload_n C0 dL_law_3538 rfl 4 rfl ?_
        obtain ⟨_, e1162, hf⟩ := zbind hf
        obtain ⟨x1165, h1163, e1164, hf⟩ := zbind2 hf
        refine zr_callV_r C0 cv_X0_214_X6 rfl (zcko e1162) (m_X6_thrown C0.2.2.2.2.2.2.1 e1164) (by decide) (by decide) rfl rfl (Nat.le_of_ble_eq_true rfl) dL_law_3539 rfl ?_
        refine zr_iload C0 dL_law_3542 1 rfl ?_
        refine zr_icmp_eq C0 (tgt := 3549) dL_law_3544 (by decide) (fun c1166 => ?_) (fun c1166 => ?_)
        · have hf := zif_t c1166 hf
          refine zr_iload C0 dL_law_3549 1 rfl ?_
          refine zr_if_ne C0 (tgt := 3573) dL_law_3551 (by decide) (fun c1167 => ?_) (fun c1167 => ?_)
          · have hf := zif_f c1167 hf
            refine zr_sub [2, 3, 4, 5, 6] rfl ?_
            exact w_L_law_b3573 C0 ih hf
          · have hf := zif_t c1167 hf
            refine zr_aload_n C0 dL_law_3554 rfl 5 rfl ?_
            refine zr_iconst C0 (v := 0) dL_law_3555 (by decide) ?_
            obtain ⟨x1168, e1169, hf⟩ := zbind hf
            refine zr_lald C0 dL_law_3556 e1169 ?_
            refine zr_iload C0 dL_law_3557 0 rfl ?_
            refine zr_if_eq C0 (tgt := 3566) dL_law_3559 (by decide) (fun c1170 => ?_) (fun c1170 => ?_)
            · have hf := zif_t c1170 hf
              refine zr_lconst C0 (v := 0) dL_law_3566 (by decide) ?_
              refine zr_sub [2, 3, 4, 5, 6] rfl ?_
              exact w_L_law_b3567 C0 ih hf
            · have hf := zif_f c1170 hf
              refine zr_lconst C0 (v := 1) dL_law_3562 (by decide) ?_
              refine zr_goto C0 (tgt := 3567) dL_law_3563 (by decide) ?_
              refine zr_sub [2, 3, 4, 5, 6] rfl ?_
              exact w_L_law_b3567 C0 ih hf
        · have hf := zif_f c1166 hf
          refine zr_iconst C0 (v := 0) dL_law_3547 (by decide) ?_
          refine zretW hf ?_
          exact zr_iret C0 (ty := .boolean) rfl (by decide) dL_law_3548 rfl
      have hf := zif_f c1150 hf
      rcases Decidable.em ((x4 &&& (63 : Int32)) = 54) with c1171 | c1171
      · have hf := zif_t c1171 hf
        refine zr_tableIn C0 (v := 54) (tgt := 3576) dL_law_40 c1171 (by decide) (by decide) rfl (by decide) ?_
        refine zr_aload_n C0 dL_law_3576 rfl 1 rfl ?_
        refine zr_aload_n C0 dL_law_3577 rfl 0 rfl ?_
        refine zr_iload C0 dL_law_3578 4 rfl ?_
        refine zr_iconst C0 (v := 1) dL_law_3580 (by decide) ?_
        refine zr_iadd C0 dL_law_3581 ?_
        obtain ⟨x1172, e1173, hf⟩ := zbind hf
        refine zr_iald C0 dL_law_3582 e1173 ?_
        refine zr_aload_n C0 dL_law_3583 rfl 3 rfl ?_
        obtain ⟨x1176, h1174, e1175, hf⟩ := zbind2 hf
        refine zr_callSX_r C0 cv_X0_372 (m_X0_withdraw C0.2.2.2.2.2.2.1 e1175) (by decide) (by decide) rfl rfl (Nat.le_of_ble_eq_true rfl) dL_law_3584 rfl ?_
        refine zr_istore (i := 5) (lv' := [(5, .int x1176), (0, .ref p0), (1, .ref p1), (2, .ref p2), (3, .ref p3), (4, .int p4)]) C0 dL_law_3587 (by decide) (by first | rfl | simp [zst1, zst2, zcat_rf]) ?_
        refine zr_aload_n C0 dL_law_3589 rfl 3 rfl ?_
        refine zr_aload_n C0 dL_law_3590 rfl 1 rfl ?_
        refine zr_iload C0 dL_law_3591 5 rfl ?_
        refine zr_iconst C0 (v := 1) dL_law_3593 (by decide) ?_
        refine zr_iadd C0 dL_law_3594 ?_
        obtain ⟨x1177, e1178, hf⟩ := zbind hf
        refine zr_iald C0 dL_law_3595 e1178 ?_
        obtain ⟨_, e1179, hf⟩ := zbind hf
        obtain ⟨x1182, h1180, e1181, hf⟩ := zbind2 hf
        refine zr_callV_r C0 cv_X0_374_X6 rfl (zcko e1179) (m_X6_withdraw C0.2.2.2.2.2.2.1 e1181) (by decide) (by decide) rfl rfl (Nat.le_of_ble_eq_true rfl) dL_law_3596 rfl ?_
        refine zr_istore (i := 6) (lv' := [(6, .int x1182), (5, .int x1176), (0, .ref p0), (1, .ref p1), (2, .ref p2), (3, .ref p3), (4, .int p4)]) C0 dL_law_3599 (by decide) (by first | rfl | simp [zst1, zst2, zcat_rf]) ?_
        refine zr_aload_n C0 dL_law_3601 rfl 4 rfl ?_
        obtain ⟨_, e1183, hf⟩ := zbind hf
        obtain ⟨x1186, h1184, e1185, hf⟩ := zbind2 hf
        refine zr_callV_r C0 cv_X0_214_X6 rfl (zcko e1183) (m_X6_thrown C0.2.2.2.2.2.2.1 e1185) (by decide) (by decide) rfl rfl (Nat.le_of_ble_eq_true rfl) dL_law_3602 rfl ?_
        refine zr_iload C0 dL_law_3605 1 rfl ?_
        refine zr_icmp_eq C0 (tgt := 3612) dL_law_3607 (by decide) (fun c1187 => ?_) (fun c1187 => ?_)
        · have hf := zif_t c1187 hf
          refine zr_iload C0 dL_law_3612 1 rfl ?_
          refine zr_if_ne C0 (tgt := 3636) dL_law_3614 (by decide) (fun c1188 => ?_) (fun c1188 => ?_)
          · have hf := zif_f c1188 hf
            refine zr_sub [2, 3, 4, 5, 6] rfl ?_
            exact w_L_law_b3636 C0 ih hf
          · have hf := zif_t c1188 hf
            refine zr_aload_n C0 dL_law_3617 rfl 5 rfl ?_
            refine zr_iconst C0 (v := 0) dL_law_3618 (by decide) ?_
            obtain ⟨x1189, e1190, hf⟩ := zbind hf
            refine zr_lald C0 dL_law_3619 e1190 ?_
            refine zr_iload C0 dL_law_3620 0 rfl ?_
            refine zr_if_eq C0 (tgt := 3629) dL_law_3622 (by decide) (fun c1191 => ?_) (fun c1191 => ?_)
            · have hf := zif_t c1191 hf
              refine zr_lconst C0 (v := 0) dL_law_3629 (by decide) ?_
              refine zr_sub [2, 3, 4, 5, 6] rfl ?_
              exact w_L_law_b3630 C0 ih hf
            · have hf := zif_f c1191 hf
              refine zr_lconst C0 (v := 1) dL_law_3625 (by decide) ?_
              refine zr_goto C0 (tgt := 3630) dL_law_3626 (by decide) ?_
              refine zr_sub [2, 3, 4, 5, 6] rfl ?_
              exact w_L_law_b3630 C0 ih hf
        · have hf := zif_f c1187 hf
          refine zr_iconst C0 (v := 0) dL_law_3610 (by decide) ?_
          refine zretW hf ?_
          exact zr_iret C0 (ty := .boolean) rfl (by decide) dL_law_3611 rfl
      have hf := zif_f c1171 hf
      rcases Decidable.em ((x4 &&& (63 : Int32)) = 55) with c1192 | c1192
      · have hf := zif_t c1192 hf
        refine zr_tableIn C0 (v := 55) (tgt := 3639) dL_law_40 c1192 (by decide) (by decide) rfl (by decide) ?_
        refine zr_aload_n C0 dL_law_3639 rfl 1 rfl ?_
        refine zr_aload_n C0 dL_law_3640 rfl 0 rfl ?_
        refine zr_iload C0 dL_law_3641 4 rfl ?_
        refine zr_iconst C0 (v := 1) dL_law_3643 (by decide) ?_
        refine zr_iadd C0 dL_law_3644 ?_
        obtain ⟨x1193, e1194, hf⟩ := zbind hf
        refine zr_iald C0 dL_law_3645 e1194 ?_
        refine zr_aload_n C0 dL_law_3646 rfl 3 rfl ?_
        obtain ⟨x1197, h1195, e1196, hf⟩ := zbind2 hf
        refine zr_callSX_r C0 cv_X0_375 (m_X0_transferState C0.2.2.2.2.2.2.1 e1196) (by decide) (by decide) rfl rfl (Nat.le_of_ble_eq_true rfl) dL_law_3647 rfl ?_
        refine zr_istore (i := 5) (lv' := [(5, .int x1197), (0, .ref p0), (1, .ref p1), (2, .ref p2), (3, .ref p3), (4, .int p4)]) C0 dL_law_3650 (by decide) (by first | rfl | simp [zst1, zst2, zcat_rf]) ?_
        refine zr_aload_n C0 dL_law_3652 rfl 3 rfl ?_
        refine zr_aload_n C0 dL_law_3653 rfl 1 rfl ?_
        refine zr_iload C0 dL_law_3654 5 rfl ?_
        refine zr_iconst C0 (v := 1) dL_law_3656 (by decide) ?_
        refine zr_iadd C0 dL_law_3657 ?_
        obtain ⟨x1198, e1199, hf⟩ := zbind hf
        refine zr_iald C0 dL_law_3658 e1199 ?_
        obtain ⟨_, e1200, hf⟩ := zbind hf
        obtain ⟨x1203, h1201, e1202, hf⟩ := zbind2 hf
        refine zr_callV_r C0 cv_X0_377_X6 rfl (zcko e1200) (m_X6_transferState C0.2.2.2.2.2.2.1 e1202) (by decide) (by decide) rfl rfl (Nat.le_of_ble_eq_true rfl) dL_law_3659 rfl ?_
        refine zr_istore (i := 6) (lv' := [(6, .int x1203), (5, .int x1197), (0, .ref p0), (1, .ref p1), (2, .ref p2), (3, .ref p3), (4, .int p4)]) C0 dL_law_3662 (by decide) (by first | rfl | simp [zst1, zst2, zcat_rf]) ?_
        refine zr_aload_n C0 dL_law_3664 rfl 4 rfl ?_
        obtain ⟨_, e1204, hf⟩ := zbind hf
        obtain ⟨x1207, h1205, e1206, hf⟩ := zbind2 hf
        refine zr_callV_r C0 cv_X0_214_X6 rfl (zcko e1204) (m_X6_thrown C0.2.2.2.2.2.2.1 e1206) (by decide) (by decide) rfl rfl (Nat.le_of_ble_eq_true rfl) dL_law_3665 rfl ?_
        refine zr_iload C0 dL_law_3668 1 rfl ?_
        refine zr_icmp_eq C0 (tgt := 3675) dL_law_3670 (by decide) (fun c1208 => ?_) (fun c1208 => ?_)
        · have hf := zif_t c1208 hf
          refine zr_iload C0 dL_law_3675 1 rfl ?_
          refine zr_if_ne C0 (tgt := 3692) dL_law_3677 (by decide) (fun c1209 => ?_) (fun c1209 => ?_)
          · have hf := zif_f c1209 hf
            refine zr_sub [2, 3, 4, 5, 6] rfl ?_
            exact w_L_law_b3692 C0 ih hf
          · have hf := zif_t c1209 hf
            refine zr_aload_n C0 dL_law_3680 rfl 5 rfl ?_
            refine zr_iconst C0 (v := 0) dL_law_3681 (by decide) ?_
            obtain ⟨x1210, e1211, hf⟩ := zbind hf
            refine zr_lald C0 dL_law_3682 e1211 ?_
            refine zr_iload C0 dL_law_3683 0 rfl ?_
            refine zr_i2l C0 dL_law_3685 ?_
            refine zr_lcmp C0 dL_law_3686 ?_
            refine zr_if_eq C0 (tgt := 3692) dL_law_3687 (by decide) (fun c1212 => ?_) (fun c1212 => ?_)
            · have hf := zif_t (zl_eq.mp c1212) hf
              refine zr_sub [2, 3, 4, 5, 6] rfl ?_
              exact w_L_law_b3692 C0 ih hf
            · have hf := zif_f (zl_eqn.mp c1212) hf
              refine zr_iconst C0 (v := 0) dL_law_3690 (by decide) ?_
              refine zretW hf ?_
              exact zr_iret C0 (ty := .boolean) rfl (by decide) dL_law_3691 rfl
        · have hf := zif_f c1208 hf
          refine zr_iconst C0 (v := 0) dL_law_3673 (by decide) ?_
          refine zretW hf ?_
          exact zr_iret C0 (ty := .boolean) rfl (by decide) dL_law_3674 rfl
      have hf := zif_f c1192 hf
      rcases Decidable.em ((x4 &&& (63 : Int32)) = 56) with c1213 | c1213
      · have hf := zif_t c1213 hf
        refine zr_tableIn C0 (v := 56) (tgt := 3695) dL_law_40 c1213 (by decide) (by decide) rfl (by decide) ?_
        refine zr_aload_n C0 dL_law_3695 rfl 1 rfl ?_
        refine zr_aload_n C0 dL_law_3696 rfl 0 rfl ?_
        refine zr_iload C0 dL_law_3697 4 rfl ?_
        refine zr_iconst C0 (v := 1) dL_law_3699 (by decide) ?_
        refine zr_iadd C0 dL_law_3700 ?_
        obtain ⟨x1214, e1215, hf⟩ := zbind hf
        refine zr_iald C0 dL_law_3701 e1215 ?_
        refine zr_aload_n C0 dL_law_3702 rfl 3 rfl ?_
        obtain ⟨x1218, h1216, e1217, hf⟩ := zbind2 hf
        refine zr_callSX_r C0 cv_X0_378 (m_X0_transferWait C0.2.2.2.2.2.2.1 e1217) (by decide) (by decide) rfl rfl (Nat.le_of_ble_eq_true rfl) dL_law_3703 rfl ?_
        refine zr_istore (i := 5) (lv' := [(5, .int x1218), (0, .ref p0), (1, .ref p1), (2, .ref p2), (3, .ref p3), (4, .int p4)]) C0 dL_law_3706 (by decide) (by first | rfl | simp [zst1, zst2, zcat_rf]) ?_
        refine zr_aload_n C0 dL_law_3708 rfl 3 rfl ?_
        refine zr_aload_n C0 dL_law_3709 rfl 1 rfl ?_
        refine zr_iload C0 dL_law_3710 5 rfl ?_
        refine zr_iconst C0 (v := 1) dL_law_3712 (by decide) ?_
        refine zr_iadd C0 dL_law_3713 ?_
        obtain ⟨x1219, e1220, hf⟩ := zbind hf
        refine zr_iald C0 dL_law_3714 e1220 ?_
        obtain ⟨_, e1221, hf⟩ := zbind hf
        obtain ⟨x1224, h1222, e1223, hf⟩ := zbind2 hf
        refine zr_callV_r C0 cv_X0_380_X6 rfl (zcko e1221) (m_X6_transferWait C0.2.2.2.2.2.2.1 e1223) (by decide) (by decide) rfl rfl (Nat.le_of_ble_eq_true rfl) dL_law_3715 rfl ?_
        refine zr_istore (i := 6) (lv' := [(6, .int x1224), (5, .int x1218), (0, .ref p0), (1, .ref p1), (2, .ref p2), (3, .ref p3), (4, .int p4)]) C0 dL_law_3718 (by decide) (by first | rfl | simp [zst1, zst2, zcat_rf]) ?_
        refine zr_aload_n C0 dL_law_3720 rfl 4 rfl ?_
        obtain ⟨_, e1225, hf⟩ := zbind hf
        obtain ⟨x1228, h1226, e1227, hf⟩ := zbind2 hf
        refine zr_callV_r C0 cv_X0_214_X6 rfl (zcko e1225) (m_X6_thrown C0.2.2.2.2.2.2.1 e1227) (by decide) (by decide) rfl rfl (Nat.le_of_ble_eq_true rfl) dL_law_3721 rfl ?_
        refine zr_iload C0 dL_law_3724 1 rfl ?_
        refine zr_icmp_eq C0 (tgt := 3731) dL_law_3726 (by decide) (fun c1229 => ?_) (fun c1229 => ?_)
        · have hf := zif_t c1229 hf
          refine zr_iload C0 dL_law_3731 1 rfl ?_
          refine zr_if_ne C0 (tgt := 3748) dL_law_3733 (by decide) (fun c1230 => ?_) (fun c1230 => ?_)
          · have hf := zif_f c1230 hf
            refine zr_sub [2, 3, 4, 5, 6] rfl ?_
            exact w_L_law_b3748 C0 ih hf
          · have hf := zif_t c1230 hf
            refine zr_aload_n C0 dL_law_3736 rfl 5 rfl ?_
            refine zr_iconst C0 (v := 0) dL_law_3737 (by decide) ?_
            obtain ⟨x1231, e1232, hf⟩ := zbind hf
            refine zr_lald C0 dL_law_3738 e1232 ?_
            refine zr_iload C0 dL_law_3739 0 rfl ?_
            refine zr_i2l C0 dL_law_3741 ?_
            refine zr_lcmp C0 dL_law_3742 ?_
            refine zr_if_eq C0 (tgt := 3748) dL_law_3743 (by decide) (fun c1233 => ?_) (fun c1233 => ?_)
            · have hf := zif_t (zl_eq.mp c1233) hf
              refine zr_sub [2, 3, 4, 5, 6] rfl ?_
              exact w_L_law_b3748 C0 ih hf
            · have hf := zif_f (zl_eqn.mp c1233) hf
              refine zr_iconst C0 (v := 0) dL_law_3746 (by decide) ?_
              refine zretW hf ?_
              exact zr_iret C0 (ty := .boolean) rfl (by decide) dL_law_3747 rfl
        · have hf := zif_f c1229 hf
          refine zr_iconst C0 (v := 0) dL_law_3729 (by decide) ?_
          refine zretW hf ?_
          exact zr_iret C0 (ty := .boolean) rfl (by decide) dL_law_3730 rfl
      have hf := zif_f c1213 hf
      rcases Decidable.em ((x4 &&& (63 : Int32)) = 57) with c1234 | c1234
      · have hf := zif_t c1234 hf
        refine zr_tableIn C0 (v := 57) (tgt := 3751) dL_law_40 c1234 (by decide) (by decide) rfl (by decide) ?_
        refine zr_aload_n C0 dL_law_3751 rfl 1 rfl ?_
        refine zr_aload_n C0 dL_law_3752 rfl 0 rfl ?_
        refine zr_iload C0 dL_law_3753 4 rfl ?_
        refine zr_iconst C0 (v := 1) dL_law_3755 (by decide) ?_
        refine zr_iadd C0 dL_law_3756 ?_
        obtain ⟨x1235, e1236, hf⟩ := zbind hf
        refine zr_iald C0 dL_law_3757 e1236 ?_
        refine zr_aload_n C0 dL_law_3758 rfl 3 rfl ?_
        obtain ⟨x1239, h1237, e1238, hf⟩ := zbind2 hf
        refine zr_callSX_r C0 cv_X0_381 (m_X0_generation C0.2.2.2.2.2.2.1 e1238) (by decide) (by decide) rfl rfl (Nat.le_of_ble_eq_true rfl) dL_law_3759 rfl ?_
        refine zr_istore (i := 5) (lv' := [(5, .int x1239), (0, .ref p0), (1, .ref p1), (2, .ref p2), (3, .ref p3), (4, .int p4)]) C0 dL_law_3762 (by decide) (by first | rfl | simp [zst1, zst2, zcat_rf]) ?_
        refine zr_aload_n C0 dL_law_3764 rfl 3 rfl ?_
        refine zr_aload_n C0 dL_law_3765 rfl 1 rfl ?_
        refine zr_iload C0 dL_law_3766 5 rfl ?_
        refine zr_iconst C0 (v := 1) dL_law_3768 (by decide) ?_
        refine zr_iadd C0 dL_law_3769 ?_
        obtain ⟨x1240, e1241, hf⟩ := zbind hf
        refine zr_iald C0 dL_law_3770 e1241 ?_
        obtain ⟨_, e1242, hf⟩ := zbind hf
        obtain ⟨x1245, h1243, e1244, hf⟩ := zbind2 hf
        refine zr_callV_r C0 cv_X0_383_X6 rfl (zcko e1242) (m_X6_generation C0.2.2.2.2.2.2.1 e1244) (by decide) (by decide) rfl rfl (Nat.le_of_ble_eq_true rfl) dL_law_3771 rfl ?_
        refine zr_istore (i := 6) (lv' := [(6, .int x1245), (5, .int x1239), (0, .ref p0), (1, .ref p1), (2, .ref p2), (3, .ref p3), (4, .int p4)]) C0 dL_law_3774 (by decide) (by first | rfl | simp [zst1, zst2, zcat_rf]) ?_
        refine zr_aload_n C0 dL_law_3776 rfl 4 rfl ?_
        obtain ⟨_, e1246, hf⟩ := zbind hf
        obtain ⟨x1249, h1247, e1248, hf⟩ := zbind2 hf
        refine zr_callV_r C0 cv_X0_214_X6 rfl (zcko e1246) (m_X6_thrown C0.2.2.2.2.2.2.1 e1248) (by decide) (by decide) rfl rfl (Nat.le_of_ble_eq_true rfl) dL_law_3777 rfl ?_
        refine zr_iload C0 dL_law_3780 1 rfl ?_
        refine zr_icmp_eq C0 (tgt := 3787) dL_law_3782 (by decide) (fun c1250 => ?_) (fun c1250 => ?_)
        · have hf := zif_t c1250 hf
          refine zr_iload C0 dL_law_3787 1 rfl ?_
          refine zr_if_ne C0 (tgt := 3804) dL_law_3789 (by decide) (fun c1251 => ?_) (fun c1251 => ?_)
          · have hf := zif_f c1251 hf
            refine zr_sub [2, 3, 4, 5, 6] rfl ?_
            exact w_L_law_b3804 C0 ih hf
          · have hf := zif_t c1251 hf
            refine zr_aload_n C0 dL_law_3792 rfl 5 rfl ?_
            refine zr_iconst C0 (v := 0) dL_law_3793 (by decide) ?_
            obtain ⟨x1252, e1253, hf⟩ := zbind hf
            refine zr_lald C0 dL_law_3794 e1253 ?_
            refine zr_iload C0 dL_law_3795 0 rfl ?_
            refine zr_i2l C0 dL_law_3797 ?_
            refine zr_lcmp C0 dL_law_3798 ?_
            refine zr_if_eq C0 (tgt := 3804) dL_law_3799 (by decide) (fun c1254 => ?_) (fun c1254 => ?_)
            · have hf := zif_t (zl_eq.mp c1254) hf
              refine zr_sub [2, 3, 4, 5, 6] rfl ?_
              exact w_L_law_b3804 C0 ih hf
            · have hf := zif_f (zl_eqn.mp c1254) hf
              refine zr_iconst C0 (v := 0) dL_law_3802 (by decide) ?_
              refine zretW hf ?_
              exact zr_iret C0 (ty := .boolean) rfl (by decide) dL_law_3803 rfl
        · have hf := zif_f c1250 hf
          refine zr_iconst C0 (v := 0) dL_law_3785 (by decide) ?_
          refine zretW hf ?_
          exact zr_iret C0 (ty := .boolean) rfl (by decide) dL_law_3786 rfl
      have hf := zif_f c1234 hf
      rcases Decidable.em ((x4 &&& (63 : Int32)) = 58) with c1255 | c1255
      · have hf := zif_t c1255 hf
        refine zr_tableIn C0 (v := 58) (tgt := 3807) dL_law_40 c1255 (by decide) (by decide) rfl (by decide) ?_
        refine zr_aload_n C0 dL_law_3807 rfl 1 rfl ?_
        refine zr_aload_n C0 dL_law_3808 rfl 0 rfl ?_
        refine zr_iload C0 dL_law_3809 4 rfl ?_
        refine zr_iconst C0 (v := 1) dL_law_3811 (by decide) ?_
        refine zr_iadd C0 dL_law_3812 ?_
        obtain ⟨x1256, e1257, hf⟩ := zbind hf
        refine zr_iald C0 dL_law_3813 e1257 ?_
        refine zr_aload_n C0 dL_law_3814 rfl 3 rfl ?_
        obtain ⟨x1260, h1258, e1259, hf⟩ := zbind2 hf
        refine zr_callSX_r C0 cv_X0_384 (m_X0_worth C0.2.2.2.2.2.2.1 e1259) (by decide) (by decide) rfl rfl (Nat.le_of_ble_eq_true rfl) dL_law_3815 rfl ?_
        refine zr_istore (i := 5) (lv' := [(5, .int x1260), (0, .ref p0), (1, .ref p1), (2, .ref p2), (3, .ref p3), (4, .int p4)]) C0 dL_law_3818 (by decide) (by first | rfl | simp [zst1, zst2, zcat_rf]) ?_
        refine zr_aload_n C0 dL_law_3820 rfl 3 rfl ?_
        refine zr_aload_n C0 dL_law_3821 rfl 1 rfl ?_
        refine zr_iload C0 dL_law_3822 5 rfl ?_
        refine zr_iconst C0 (v := 1) dL_law_3824 (by decide) ?_
        refine zr_iadd C0 dL_law_3825 ?_
        obtain ⟨x1261, e1262, hf⟩ := zbind hf
        refine zr_iald C0 dL_law_3826 e1262 ?_
        obtain ⟨_, e1263, hf⟩ := zbind hf
        obtain ⟨x1266, h1264, e1265, hf⟩ := zbind2 hf
        refine zr_callV_r C0 cv_X0_386_X6 rfl (zcko e1263) (m_X6_worth C0.2.2.2.2.2.2.1 e1265) (by decide) (by decide) rfl rfl (Nat.le_of_ble_eq_true rfl) dL_law_3827 rfl ?_
        refine zr_istore (i := 6) (lv' := [(6, .int x1266), (5, .int x1260), (0, .ref p0), (1, .ref p1), (2, .ref p2), (3, .ref p3), (4, .int p4)]) C0 dL_law_3830 (by decide) (by first | rfl | simp [zst1, zst2, zcat_rf]) ?_
        refine zr_aload_n C0 dL_law_3832 rfl 4 rfl ?_
        obtain ⟨_, e1267, hf⟩ := zbind hf
        obtain ⟨x1270, h1268, e1269, hf⟩ := zbind2 hf
        refine zr_callV_r C0 cv_X0_214_X6 rfl (zcko e1267) (m_X6_thrown C0.2.2.2.2.2.2.1 e1269) (by decide) (by decide) rfl rfl (Nat.le_of_ble_eq_true rfl) dL_law_3833 rfl ?_
        refine zr_iload C0 dL_law_3836 1 rfl ?_
        refine zr_icmp_eq C0 (tgt := 3843) dL_law_3838 (by decide) (fun c1271 => ?_) (fun c1271 => ?_)
        · have hf := zif_t c1271 hf
          refine zr_iload C0 dL_law_3843 1 rfl ?_
          refine zr_if_ne C0 (tgt := 3860) dL_law_3845 (by decide) (fun c1272 => ?_) (fun c1272 => ?_)
          · have hf := zif_f c1272 hf
            refine zr_sub [2, 3, 4, 5, 6] rfl ?_
            exact w_L_law_b3860 C0 ih hf
          · have hf := zif_t c1272 hf
            refine zr_aload_n C0 dL_law_3848 rfl 5 rfl ?_
            refine zr_iconst C0 (v := 0) dL_law_3849 (by decide) ?_
            obtain ⟨x1273, e1274, hf⟩ := zbind hf
            refine zr_lald C0 dL_law_3850 e1274 ?_
            refine zr_iload C0 dL_law_3851 0 rfl ?_
            refine zr_i2l C0 dL_law_3853 ?_
            refine zr_lcmp C0 dL_law_3854 ?_
            refine zr_if_eq C0 (tgt := 3860) dL_law_3855 (by decide) (fun c1275 => ?_) (fun c1275 => ?_)
            · have hf := zif_t (zl_eq.mp c1275) hf
              refine zr_sub [2, 3, 4, 5, 6] rfl ?_
              exact w_L_law_b3860 C0 ih hf
            · have hf := zif_f (zl_eqn.mp c1275) hf
              refine zr_iconst C0 (v := 0) dL_law_3858 (by decide) ?_
              refine zretW hf ?_
              exact zr_iret C0 (ty := .boolean) rfl (by decide) dL_law_3859 rfl
        · have hf := zif_f c1271 hf
          refine zr_iconst C0 (v := 0) dL_law_3841 (by decide) ?_
          refine zretW hf ?_
          exact zr_iret C0 (ty := .boolean) rfl (by decide) dL_law_3842 rfl
      have hf := zif_f c1255 hf
      rcases Decidable.em ((x4 &&& (63 : Int32)) = 59) with c1276 | c1276
      · have hf := zif_t c1276 hf
        refine zr_tableIn C0 (v := 59) (tgt := 3863) dL_law_40 c1276 (by decide) (by decide) rfl (by decide) ?_
        refine zr_aload_n C0 dL_law_3863 rfl 1 rfl ?_
        refine zr_aload_n C0 dL_law_3864 rfl 0 rfl ?_
        refine zr_iload C0 dL_law_3865 4 rfl ?_
        refine zr_iconst C0 (v := 1) dL_law_3867 (by decide) ?_
        refine zr_iadd C0 dL_law_3868 ?_
        obtain ⟨x1277, e1278, hf⟩ := zbind hf
        refine zr_iald C0 dL_law_3869 e1278 ?_
        obtain ⟨_, e1279, hf⟩ := zbind hf
        obtain ⟨x1282, h1280, e1281, hf⟩ := zbind2 hf
        refine zr_callV_r C0 cv_X0_387_X1 rfl (zcko e1279) (m_X1_saveSnapshot C0.2.2.2.2.2.2.1 e1281) (by decide) (by decide) rfl rfl (Nat.le_of_ble_eq_true rfl) dL_law_3870 rfl ?_
        refine zr_aload_n C0 dL_law_3873 rfl 2 rfl ?_
        refine zr_aload_n C0 dL_law_3874 rfl 0 rfl ?_
        refine zr_iload C0 dL_law_3875 4 rfl ?_
        refine zr_iconst C0 (v := 1) dL_law_3877 (by decide) ?_
        refine zr_iadd C0 dL_law_3878 ?_
        obtain ⟨x1283, e1284, hf⟩ := zbind hf
        refine zr_iald C0 dL_law_3879 e1284 ?_
        obtain ⟨_, e1285, hf⟩ := zbind hf
        obtain ⟨x1288, h1286, e1287, hf⟩ := zbind2 hf
        refine zr_callV_r C0 cv_X0_390_X6 rfl (zcko e1285) (m_X6_saveSnapshot C0.2.2.2.2.2.2.1 e1287) (by decide) (by decide) rfl rfl (Nat.le_of_ble_eq_true rfl) dL_law_3880 rfl ?_
        refine zr_icmp_eq C0 (tgt := 4006) dL_law_3883 (by decide) (fun c1289 => ?_) (fun c1289 => ?_)
        · have hf := zif_t c1289 hf
          exact w_L_law_b4006 C0 ih hf
        · have hf := zif_f c1289 hf
          refine zr_iconst C0 (v := 0) dL_law_3886 (by decide) ?_
          refine zretW hf ?_
          exact zr_iret C0 (ty := .boolean) rfl (by decide) dL_law_3887 rfl
      have hf := zif_f c1276 hf
      rcases Decidable.em ((x4 &&& (63 : Int32)) = 60) with c1290 | c1290
      · have hf := zif_t c1290 hf
        refine zr_tableIn C0 (v := 60) (tgt := 3888) dL_law_40 c1290 (by decide) (by decide) rfl (by decide) ?_
        refine zr_aload_n C0 dL_law_3888 rfl 1 rfl ?_
        refine zr_aload_n C0 dL_law_3889 rfl 0 rfl ?_
        refine zr_iload C0 dL_law_3890 4 rfl ?_
        refine zr_iconst C0 (v := 1) dL_law_3892 (by decide) ?_
        refine zr_iadd C0 dL_law_3893 ?_
        obtain ⟨x1291, e1292, hf⟩ := zbind hf
        refine zr_iald C0 dL_law_3894 e1292 ?_
        obtain ⟨_, e1293, hf⟩ := zbind hf
        obtain ⟨x1296, h1294, e1295, hf⟩ := zbind2 hf
        refine zr_callV_r C0 cv_X0_391_X1 rfl (zcko e1293) (m_X1_restoreSnapshot C0.2.2.2.2.2.2.1 e1295) (by decide) (by decide) rfl rfl (Nat.le_of_ble_eq_true rfl) dL_law_3895 rfl ?_
        refine zr_aload_n C0 dL_law_3898 rfl 2 rfl ?_
        refine zr_aload_n C0 dL_law_3899 rfl 0 rfl ?_
        refine zr_iload C0 dL_law_3900 4 rfl ?_
        refine zr_iconst C0 (v := 1) dL_law_3902 (by decide) ?_
        refine zr_iadd C0 dL_law_3903 ?_
        obtain ⟨x1297, e1298, hf⟩ := zbind hf
        refine zr_iald C0 dL_law_3904 e1298 ?_
        obtain ⟨_, e1299, hf⟩ := zbind hf
        obtain ⟨x1302, h1300, e1301, hf⟩ := zbind2 hf
        refine zr_callV_r C0 cv_X0_394_X6 rfl (zcko e1299) (m_X6_restoreSnapshot C0.2.2.2.2.2.2.1 e1301) (by decide) (by decide) rfl rfl (Nat.le_of_ble_eq_true rfl) dL_law_3905 rfl ?_
        refine zr_icmp_eq C0 (tgt := 4006) dL_law_3908 (by decide) (fun c1303 => ?_) (fun c1303 => ?_)
        · have hf := zif_t c1303 hf
          exact w_L_law_b4006 C0 ih hf
        · have hf := zif_f c1303 hf
          refine zr_iconst C0 (v := 0) dL_law_3911 (by decide) ?_
          refine zretW hf ?_
          exact zr_iret C0 (ty := .boolean) rfl (by decide) dL_law_3912 rfl
      have hf := zif_f c1290 hf
      rcases Decidable.em ((x4 &&& (63 : Int32)) = 61) with c1304 | c1304
      · have hf := zif_t c1304 hf
        refine zr_tableIn C0 (v := 61) (tgt := 3913) dL_law_40 c1304 (by decide) (by decide) rfl (by decide) ?_
        refine zr_aload_n C0 dL_law_3913 rfl 1 rfl ?_
        refine zr_aload_n C0 dL_law_3914 rfl 0 rfl ?_
        refine zr_iload C0 dL_law_3915 4 rfl ?_
        refine zr_iconst C0 (v := 1) dL_law_3917 (by decide) ?_
        refine zr_iadd C0 dL_law_3918 ?_
        obtain ⟨x1305, e1306, hf⟩ := zbind hf
        refine zr_iald C0 dL_law_3919 e1306 ?_
        refine zr_aload_n C0 dL_law_3920 rfl 0 rfl ?_
        refine zr_iload C0 dL_law_3921 4 rfl ?_
        refine zr_iconst C0 (v := 2) dL_law_3923 (by decide) ?_
        refine zr_iadd C0 dL_law_3924 ?_
        obtain ⟨x1307, e1308, hf⟩ := zbind hf
        refine zr_iald C0 dL_law_3925 e1308 ?_
        refine zr_aload_n C0 dL_law_3926 rfl 3 rfl ?_
        obtain ⟨x1311, h1309, e1310, hf⟩ := zbind2 hf
        refine zr_callSX_r C0 cv_X0_395 (m_X0_formatInvoice C0.2.2.2.2.2.2.1 e1310) (by decide) (by decide) rfl rfl (Nat.le_of_ble_eq_true rfl) dL_law_3927 rfl ?_
        refine zr_istore (i := 5) (lv' := [(5, .int x1311), (0, .ref p0), (1, .ref p1), (2, .ref p2), (3, .ref p3), (4, .int p4)]) C0 dL_law_3930 (by decide) (by first | rfl | simp [zst1, zst2, zcat_rf]) ?_
        refine zr_aload_n C0 dL_law_3932 rfl 3 rfl ?_
        refine zr_aload_n C0 dL_law_3933 rfl 1 rfl ?_
        refine zr_iload C0 dL_law_3934 5 rfl ?_
        refine zr_iconst C0 (v := 1) dL_law_3936 (by decide) ?_
        refine zr_iadd C0 dL_law_3937 ?_
        obtain ⟨x1312, e1313, hf⟩ := zbind hf
        refine zr_iald C0 dL_law_3938 e1313 ?_
        refine zr_aload_n C0 dL_law_3939 rfl 1 rfl ?_
        refine zr_iload C0 dL_law_3940 5 rfl ?_
        refine zr_iconst C0 (v := 2) dL_law_3942 (by decide) ?_
        refine zr_iadd C0 dL_law_3943 ?_
        obtain ⟨x1314, e1315, hf⟩ := zbind hf
        refine zr_iald C0 dL_law_3944 e1315 ?_
        obtain ⟨_, e1316, hf⟩ := zbind hf
        obtain ⟨x1319, h1317, e1318, hf⟩ := zbind2 hf
        refine zr_callV_r C0 cv_X0_397_X6 rfl (zcko e1316) (m_X6_formatInvoice C0.2.2.2.2.2.2.1 e1318) (by decide) (by decide) rfl rfl (Nat.le_of_ble_eq_true rfl) dL_law_3945 rfl ?_
        refine zr_istore (i := 6) (lv' := [(6, .int x1319), (5, .int x1311), (0, .ref p0), (1, .ref p1), (2, .ref p2), (3, .ref p3), (4, .int p4)]) C0 dL_law_3948 (by decide) (by first | rfl | simp [zst1, zst2, zcat_rf]) ?_
        refine zr_aload_n C0 dL_law_3950 rfl 4 rfl ?_
        obtain ⟨_, e1320, hf⟩ := zbind hf
        obtain ⟨x1323, h1321, e1322, hf⟩ := zbind2 hf
        refine zr_callV_r C0 cv_X0_214_X6 rfl (zcko e1320) (m_X6_thrown C0.2.2.2.2.2.2.1 e1322) (by decide) (by decide) rfl rfl (Nat.le_of_ble_eq_true rfl) dL_law_3951 rfl ?_
        refine zr_iload C0 dL_law_3954 1 rfl ?_
        refine zr_icmp_eq C0 (tgt := 3961) dL_law_3956 (by decide) (fun c1324 => ?_) (fun c1324 => ?_)
        · have hf := zif_t c1324 hf
          refine zr_iload C0 dL_law_3961 1 rfl ?_
          refine zr_if_ne C0 (tgt := 3978) dL_law_3963 (by decide) (fun c1325 => ?_) (fun c1325 => ?_)
          · have hf := zif_f c1325 hf
            refine zr_sub [2, 3, 4, 5, 6] rfl ?_
            exact w_L_law_b3978 C0 ih hf
          · have hf := zif_t c1325 hf
            refine zr_aload_n C0 dL_law_3966 rfl 5 rfl ?_
            refine zr_iconst C0 (v := 0) dL_law_3967 (by decide) ?_
            obtain ⟨x1326, e1327, hf⟩ := zbind hf
            refine zr_lald C0 dL_law_3968 e1327 ?_
            refine zr_iload C0 dL_law_3969 0 rfl ?_
            refine zr_i2l C0 dL_law_3971 ?_
            refine zr_lcmp C0 dL_law_3972 ?_
            refine zr_if_eq C0 (tgt := 3978) dL_law_3973 (by decide) (fun c1328 => ?_) (fun c1328 => ?_)
            · have hf := zif_t (zl_eq.mp c1328) hf
              refine zr_sub [2, 3, 4, 5, 6] rfl ?_
              exact w_L_law_b3978 C0 ih hf
            · have hf := zif_f (zl_eqn.mp c1328) hf
              refine zr_iconst C0 (v := 0) dL_law_3976 (by decide) ?_
              refine zretW hf ?_
              exact zr_iret C0 (ty := .boolean) rfl (by decide) dL_law_3977 rfl
        · have hf := zif_f c1324 hf
          refine zr_iconst C0 (v := 0) dL_law_3959 (by decide) ?_
          refine zretW hf ?_
          exact zr_iret C0 (ty := .boolean) rfl (by decide) dL_law_3960 rfl
      have hf := zif_f c1304 hf
      rcases Decidable.em ((x4 &&& (63 : Int32)) = 62) with c1329 | c1329
      · have hf := zif_t c1329 hf
        refine zr_tableIn C0 (v := 62) (tgt := 3981) dL_law_40 c1329 (by decide) (by decide) rfl (by decide) ?_
        refine zr_aload_n C0 dL_law_3981 rfl 1 rfl ?_
        refine zr_aload_n C0 dL_law_3982 rfl 0 rfl ?_
        refine zr_iload C0 dL_law_3983 4 rfl ?_
        refine zr_iconst C0 (v := 1) dL_law_3985 (by decide) ?_
        refine zr_iadd C0 dL_law_3986 ?_
        obtain ⟨x1330, e1331, hf⟩ := zbind hf
        refine zr_iald C0 dL_law_3987 e1331 ?_
        obtain ⟨_, e1332, hf⟩ := zbind hf
        obtain ⟨x1335, h1333, e1334, hf⟩ := zbind2 hf
        refine zr_callV_r C0 cv_X0_398_X1 rfl (zcko e1332) (m_X1_formattedByte C0.2.2.2.2.2.2.1 e1334) (by decide) (by decide) rfl rfl (Nat.le_of_ble_eq_true rfl) dL_law_3988 rfl ?_
        refine zr_aload_n C0 dL_law_3991 rfl 2 rfl ?_
        refine zr_aload_n C0 dL_law_3992 rfl 0 rfl ?_
        refine zr_iload C0 dL_law_3993 4 rfl ?_
        refine zr_iconst C0 (v := 1) dL_law_3995 (by decide) ?_
        refine zr_iadd C0 dL_law_3996 ?_
        obtain ⟨x1336, e1337, hf⟩ := zbind hf
        refine zr_iald C0 dL_law_3997 e1337 ?_
        obtain ⟨_, e1338, hf⟩ := zbind hf
        obtain ⟨x1341, h1339, e1340, hf⟩ := zbind2 hf
        refine zr_callV_r C0 cv_X0_401_X6 rfl (zcko e1338) (m_X6_formattedByte C0.2.2.2.2.2.2.1 e1340) (by decide) (by decide) rfl rfl (Nat.le_of_ble_eq_true rfl) dL_law_3998 rfl ?_
        refine zr_icmp_eq C0 (tgt := 4006) dL_law_4001 (by decide) (fun c1342 => ?_) (fun c1342 => ?_)
        · have hf := zif_t c1342 hf
          exact w_L_law_b4006 C0 ih hf
        · have hf := zif_f c1342 hf
          refine zr_iconst C0 (v := 0) dL_law_4004 (by decide) ?_
          refine zretW hf ?_
          exact zr_iret C0 (ty := .boolean) rfl (by decide) dL_law_4005 rfl
      have hf := zif_f c1329 hf
      refine zr_tableOut C0 (tgt := 4006) dL_law_40 ?_ (by decide) ?_
      · have n0 := lv_neT (a := 0) c6 rfl; have n1 := lv_neT (a := 1) c36 rfl; have n2 := lv_neT (a := 2) c50 rfl; have n3 := lv_neT (a := 3) c60 rfl; have n4 := lv_neT (a := 4) c70 rfl; have n5 := lv_neT (a := 5) c80 rfl; have n6 := lv_neT (a := 6) c90 rfl; have n7 := lv_neT (a := 7) c100 rfl; have n8 := lv_neT (a := 8) c121 rfl; have n9 := lv_neT (a := 9) c135 rfl; have n10 := lv_neT (a := 10) c145 rfl; have n11 := lv_neT (a := 11) c170 rfl; have n12 := lv_neT (a := 12) c191 rfl; have n13 := lv_neT (a := 13) c212 rfl; have n14 := lv_neT (a := 14) c237 rfl; have n15 := lv_neT (a := 15) c258 rfl; have n16 := lv_neT (a := 16) c287 rfl; have n17 := lv_neT (a := 17) c328 rfl; have n18 := lv_neT (a := 18) c349 rfl; have n19 := lv_neT (a := 19) c370 rfl; have n20 := lv_neT (a := 20) c399 rfl; have n21 := lv_neT (a := 21) c420 rfl; have n22 := lv_neT (a := 22) c445 rfl; have n23 := lv_neT (a := 23) c470 rfl; have n24 := lv_neT (a := 24) c491 rfl; have n25 := lv_neT (a := 25) c520 rfl; have n26 := lv_neT (a := 26) c541 rfl; have n27 := lv_neT (a := 27) c566 rfl; have n28 := lv_neT (a := 28) c587 rfl; have n29 := lv_neT (a := 29) c616 rfl; have n30 := lv_neT (a := 30) c653 rfl; have n31 := lv_neT (a := 31) c674 rfl; have n32 := lv_neT (a := 32) c699 rfl; have n33 := lv_neT (a := 33) c713 rfl; have n34 := lv_neT (a := 34) c738 rfl; have n35 := lv_neT (a := 35) c755 rfl; have n36 := lv_neT (a := 36) c784 rfl; have n37 := lv_neT (a := 37) c809 rfl; have n38 := lv_neT (a := 38) c830 rfl; have n39 := lv_neT (a := 39) c840 rfl; have n40 := lv_neT (a := 40) c869 rfl; have n41 := lv_neT (a := 41) c890 rfl; have n42 := lv_neT (a := 42) c919 rfl; have n43 := lv_neT (a := 43) c940 rfl; have n44 := lv_neT (a := 44) c961 rfl; have n45 := lv_neT (a := 45) c971 rfl; have n46 := lv_neT (a := 46) c992 rfl; have n47 := lv_neT (a := 47) c1013 rfl; have n48 := lv_neT (a := 48) c1038 rfl; have n49 := lv_neT (a := 49) c1067 rfl; have n50 := lv_neT (a := 50) c1088 rfl; have n51 := lv_neT (a := 51) c1109 rfl; have n52 := lv_neT (a := 52) c1142 rfl; have n53 := lv_neT (a := 53) c1150 rfl; have n54 := lv_neT (a := 54) c1171 rfl; have n55 := lv_neT (a := 55) c1192 rfl; have n56 := lv_neT (a := 56) c1213 rfl; have n57 := lv_neT (a := 57) c1234 rfl; have n58 := lv_neT (a := 58) c1255 rfl; have n59 := lv_neT (a := 59) c1276 rfl; have n60 := lv_neT (a := 60) c1290 rfl; have n61 := lv_neT (a := 61) c1304 rfl; have n62 := lv_neT (a := 62) c1329 rfl; omega
      exact w_L_law_b4006 C0 ih hf
def f_L_law_b0 (E : zE) (p0 : Nat) (h : zH) : Option (Int32 × zH) :=
  bnd2 (nO h 0 10 [.null, .null, .null, .null, .null, .null, .null, .int 0, .int 0, .int 0]) fun q1 h2 =>
  bnd2 (f_X1_init E q1 h2) fun x6 h4 =>
  bnd2 (nO h4 1 22 [.null, .null, .int 0, .null, .null, .null, .null, .int 0, .null, .int 0, .int 0, .int 0, .int 0, .int 0, .int 0, .int 0, .long 0, .null, .null, .int 0, .int 0, .int 0]) fun q7 h8 =>
  bnd2 (f_X6_init E q7 h8) fun x12 h10 =>
  bnd2 (nA h10 1 (1 : Int32) (.inr (.inl fun _ => 0))) fun q13 h14 =>
  f_L_law_l23 E E.1 p0 q1 q7 q13 (0 : Int32) h14
theorem w_L_law_b0 (C0 : zCx p l e R s m args below meth c D B0 8 "FranchiseLedgerLaw" cL_law E 17 417 (Option.some Jvm.ClassFile.FieldType.boolean) "law") {r : Int32} {h' : zH} {p0 : Nat} {h : zH} (hf : f_L_law_b0 E p0 h = some (r, h')) : zW p l e R s m args below meth c D B0 8 (zEnd D B0 R below args s (zoI r) h') h 0 [(0, .ref p0)] [] := by
  unfold f_L_law_b0 at hf
  obtain ⟨q1, h2, e3, hf⟩ := zbind2 hf
  refine zr_newc C0 (C := RX1) (T := TX1) (N := 10) rfl in_X1 tyX1_ok q176 q177 q129 nw_X1 dL_law_0 e3 ?_
  refine zr_dup C0 dL_law_3 rfl ?_
  obtain ⟨x6, h4, e5, hf⟩ := zbind2 hf
  refine zr_callI_r C0 cv_X0_175 (m_X1_init C0.2.2.2.2.2.2.1 e5) (by decide) (by decide) rfl rfl (Nat.le_of_ble_eq_true rfl) dL_law_4 rfl ?_
  refine zr_astore_n (i := 1) (lv' := [(1, .ref q1), (0, .ref p0)]) C0 dL_law_7 rfl (by decide) (by first | rfl | simp [zst1, zst2, zcat_rf]) ?_
  obtain ⟨q7, h8, e9, hf⟩ := zbind2 hf
  refine zr_newc C0 (C := RX6) (T := TX6) (N := 22) rfl in_X6 tyX6_ok q2530 q2531 q156 nw_X6 dL_law_8 e9 ?_
  refine zr_dup C0 dL_law_11 rfl ?_
  obtain ⟨x12, h10, e11, hf⟩ := zbind2 hf
  refine zr_callI_r C0 cv_X0_178 (m_X6_init C0.2.2.2.2.2.2.1 e11) (by decide) (by decide) rfl rfl (Nat.le_of_ble_eq_true rfl) dL_law_12 rfl ?_
  refine zr_astore_n (i := 2) (lv' := [(2, .ref q7), (1, .ref q1), (0, .ref p0)]) C0 dL_law_15 rfl (by decide) (by first | rfl | simp [zst1, zst2, zcat_rf]) ?_
  refine zr_iconst C0 (v := 1) dL_law_16 (by decide) ?_
  obtain ⟨q13, h14, e15, hf⟩ := zbind2 hf
  refine zr_newa C0 (atype := .long) (t := 1) q661 rfl (by decide) (fun _ => rfl) dL_law_17 e15 ?_
  refine zr_astore_n (i := 3) (lv' := [(3, .ref q13), (2, .ref q7), (1, .ref q1), (0, .ref p0)]) C0 dL_law_19 rfl (by decide) (by first | rfl | simp [zst1, zst2, zcat_rf]) ?_
  refine zr_iconst C0 (v := 0) dL_law_20 (by decide) ?_
  refine zr_istore (i := 4) (lv' := [(4, .int (0 : Int32)), (3, .ref q13), (2, .ref q7), (1, .ref q1), (0, .ref p0)]) C0 dL_law_21 (by decide) (by first | rfl | simp [zst1, zst2, zcat_rf]) ?_
  refine zr_sub [4, 3, 2, 1, 0] rfl ?_
  exact w_L_law_l23 C0 _ _ _ _ _ _ _ hf
def f_L_law (E : zE) (p0 : Nat) (h : zH) : Option (Int32 × zH) := f_L_law_b0 E p0 h
theorem e_L_law (C0 : zCx p l e R s m args below meth c D B0 8 "FranchiseLedgerLaw" cL_law E 17 417 (Option.some Jvm.ClassFile.FieldType.boolean) "law") {p0 : Nat} {r : Int32} {h h' : zH} (hf : f_L_law E p0 h = some (r, h')) : zW p l e R s m args below meth c D B0 8 (zEnd D B0 R below args s (zoI r) h') h 0 [(0, .ref p0)] [] := by
  unfold f_L_law at hf
  exact w_L_law_b0 C0 hf
end
