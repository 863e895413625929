/-! the known words: reserved ones, kinds of entries; on both sides *(printed)* -/
set_option maxRecDepth 100000
theorem hs_8 : hsh (chd (kw 8)) = (109201676 : Int32) := by decide +kernel
theorem hs_9 : hsh (chd (kw 9)) = (1550584101 : Int32) := by decide +kernel
theorem hs_10 : hsh (chd (kw 10)) = (110760 : Int32) := by decide +kernel
theorem hs_11 : hsh (chd (kw 11)) = (98615580 : Int32) := by decide +kernel
theorem hs_12 : hsh (chd (kw 12)) = (-139919088 : Int32) := by decide +kernel
theorem hs_13 : hsh (chd (kw 13)) = (3625706 : Int32) := by decide +kernel
theorem hs_14 : hsh (chd (kw 14)) = (94756344 : Int32) := by decide +kernel
theorem hs_15 : hsh (chd (kw 15)) = (3443497 : Int32) := by decide +kernel
theorem hs_16 : hsh (chd (kw 16)) = (567722088 : Int32) := by decide +kernel
theorem hs_17 : hsh (chd (kw 17)) = (3002509 : Int32) := by decide +kernel
theorem hs_18 : hsh (chd (kw 18)) = (-1005516787 : Int32) := by decide +kernel
theorem hs_19 : hsh (chd (kw 19)) = (-1352291591 : Int32) := by decide +kernel
theorem hs_20 : hsh (chd (kw 20)) = (570402602 : Int32) := by decide +kernel
theorem hs_21 : hsh (chd (kw 21)) = (92668751 : Int32) := by decide +kernel
theorem hs_22 : hsh (chd (kw 22)) = (101254 : Int32) := by decide +kernel
theorem hs_23 : hsh (chd (kw 23)) = (95467907 : Int32) := by decide +kernel
theorem hs_24 : hsh (chd (kw 24)) = (113319054 : Int32) := by decide +kernel
/-- which statement a word begins; which entry -/
def stI (d : List Nat) : Int32 := if d = kw 15 then 0 else if d = kw 16 then 1 else if d = kw 17 then 2 else if d = kw 18 then 3 else if d = kw 19 then 4 else if d = kw 20 then 5 else if d = kw 21 then 6 else if d = kw 22 then 7 else if d = kw 23 then 8 else if d = kw 24 then 9 else -1
def enI (d : List Nat) : Int32 := if d = kw 8 then 0 else if d = kw 9 then 1 else if d = kw 10 then 2 else if d = kw 11 then 3 else if d = kw 12 then 4 else if d = kw 13 then 5 else if d = kw 14 then 6 else -1
def resd (d : List Nat) : Prop := ∃ i, 15 ≤ i ∧ i < 25 ∧ d = kw i
theorem stI_kw (i : Nat) (h1 : 15 ≤ i) (h2 : i < 25) : stI (kw i) = Int32.ofNat (i - 15) := (by decide : ∀ i, i < 25 → 15 ≤ i → stI (kw i) = Int32.ofNat (i - 15)) i h2 h1
theorem enI_kw (i : Nat) (h1 : 8 ≤ i) (h2 : i < 15) : enI (kw i) = Int32.ofNat (i - 8) := (by decide : ∀ i, i < 15 → 8 ≤ i → enI (kw i) = Int32.ofNat (i - 8)) i h2 h1
theorem stI_n {d : List Nat} (h : ¬ resd d) : stI d = -1 := by
  have k : ∀ i, 15 ≤ i → i < 25 → d ≠ kw i := fun i h1 h2 h3 => h ⟨i, h1, h2, h3⟩
  unfold stI
  rw [if_neg (k 15 (by decide) (by decide)), if_neg (k 16 (by decide) (by decide)), if_neg (k 17 (by decide) (by decide)), if_neg (k 18 (by decide) (by decide)), if_neg (k 19 (by decide) (by decide)), if_neg (k 20 (by decide) (by decide)), if_neg (k 21 (by decide) (by decide)), if_neg (k 22 (by decide) (by decide)), if_neg (k 23 (by decide) (by decide)), if_neg (k 24 (by decide) (by decide))]
theorem enI_n {d : List Nat} (h : ∀ i, 8 ≤ i → i < 15 → d ≠ kw i) : enI d = -1 := by
  unfold enI
  rw [if_neg (h 8 (by decide) (by decide)), if_neg (h 9 (by decide) (by decide)), if_neg (h 10 (by decide) (by decide)), if_neg (h 11 (by decide) (by decide)), if_neg (h 12 (by decide) (by decide)), if_neg (h 13 (by decide) (by decide)), if_neg (h 14 (by decide) (by decide))]
theorem res_c {i : Nat} (h1 : 15 ≤ i) (h2 : i < 25) : i = 15 ∨ i = 16 ∨ i = 17 ∨ i = 18 ∨ i = 19 ∨ i = 20 ∨ i = 21 ∨ i = 22 ∨ i = 23 ∨ i = 24 := by omega
section TW
variable {E : zE} {t : twS}
theorem yp_plan : t_X6_pack E (112 : Int32) (108 : Int32) (97 : Int32) (110 : Int32) (0 : Int32) t = some ((536622 : Int64), t) := rfl
theorem yp_franc : t_X6_pack E (102 : Int32) (114 : Int32) (97 : Int32) (110 : Int32) (99 : Int32) t = some ((6882755 : Int64), t) := rfl
theorem yp_hisee : t_X6_pack E (104 : Int32) (105 : Int32) (115 : Int32) (101 : Int32) (101 : Int32) t = some ((8703141 : Int64), t) := rfl
theorem yp_area : t_X6_pack E (97 : Int32) (114 : Int32) (101 : Int32) (97 : Int32) (0 : Int32) t = some ((51361 : Int64), t) := rfl
theorem yp_outle : t_X6_pack E (111 : Int32) (117 : Int32) (116 : Int32) (108 : Int32) (101 : Int32) t = some ((16437637 : Int64), t) := rfl
theorem yp_credi : t_X6_pack E (99 : Int32) (114 : Int32) (101 : Int32) (100 : Int32) (105 : Int32) t = some ((3740809 : Int64), t) := rfl
theorem yp_inter : t_X6_pack E (105 : Int32) (110 : Int32) (116 : Int32) (101 : Int32) (114 : Int32) t = some ((9916594 : Int64), t) := rfl
theorem yp_est : t_X6_pack E (101 : Int32) (115 : Int32) (116 : Int32) (0 : Int32) (0 : Int32) t = some ((5748 : Int64), t) := rfl
theorem yp_admin : t_X6_pack E (97 : Int32) (100 : Int32) (109 : Int32) (105 : Int32) (110 : Int32) t = some ((1193262 : Int64), t) := rfl
theorem yp_fee : t_X6_pack E (102 : Int32) (101 : Int32) (101 : Int32) (0 : Int32) (0 : Int32) t = some ((6309 : Int64), t) := rfl
theorem yp_delay : t_X6_pack E (100 : Int32) (101 : Int32) (108 : Int32) (97 : Int32) (121 : Int32) t = some ((4370489 : Int64), t) := rfl
theorem yp_worth : t_X6_pack E (119 : Int32) (111 : Int32) (114 : Int32) (116 : Int32) (104 : Int32) t = some ((24627848 : Int64), t) := rfl
theorem yp_sales : t_X6_pack E (115 : Int32) (97 : Int32) (108 : Int32) (101 : Int32) (115 : Int32) t = some ((19968179 : Int64), t) := rfl
theorem yp_deliv : t_X6_pack E (100 : Int32) (101 : Int32) (108 : Int32) (105 : Int32) (118 : Int32) t = some ((4370742 : Int64), t) := rfl
theorem yp_er : t_X6_pack E (101 : Int32) (114 : Int32) (0 : Int32) (0 : Int32) (0 : Int32) t = some ((178 : Int64), t) := rfl
theorem yp_pay : t_X6_pack E (112 : Int32) (97 : Int32) (121 : Int32) (0 : Int32) (0 : Int32) t = some ((16441 : Int64), t) := rfl
theorem yp_grant : t_X6_pack E (103 : Int32) (114 : Int32) (97 : Int32) (110 : Int32) (116 : Int32) t = some ((7931348 : Int64), t) := rfl
theorem yp_campa : t_X6_pack E (99 : Int32) (97 : Int32) (109 : Int32) (112 : Int32) (97 : Int32) t = some ((3192321 : Int64), t) := rfl
theorem yp_ign : t_X6_pack E (105 : Int32) (103 : Int32) (110 : Int32) (0 : Int32) (0 : Int32) t = some ((9454 : Int64), t) := rfl
theorem yp_vote : t_X6_pack E (118 : Int32) (111 : Int32) (116 : Int32) (101 : Int32) (0 : Int32) t = some ((736901 : Int64), t) := rfl
theorem yp_close : t_X6_pack E (99 : Int32) (108 : Int32) (111 : Int32) (115 : Int32) (101 : Int32) t = some ((3554917 : Int64), t) := rfl
theorem yp_yes : t_X6_pack E (121 : Int32) (101 : Int32) (115 : Int32) (0 : Int32) (0 : Int32) t = some ((25779 : Int64), t) := rfl
theorem yp_no : t_X6_pack E (110 : Int32) (111 : Int32) (0 : Int32) (0 : Int32) (0 : Int32) t = some ((463 : Int64), t) := rfl
theorem y_stm {d : List Nat} (h13 : tSc t 13 = 1) (hv : t.2.2.2.2 = Int64.ofNat (wpk d)) (hd : wrd d) : t_X6_statement E t = some (stI d, t) := by
  have k : ∀ i, i < 27 → i ≠ 7 → ∀ {c : Int64}, c = Int64.ofNat (wpk (kw i)) → (t.2.2.2.2 = c ↔ d = kw i) := fun i h1 h2 c hc => by
    rw [hv, hc]
    exact (wrd_kw hd h1 h2).2
  unfold t_X6_statement t_X6_statement_b0 t_X6_statement_b301 stI
  rw [if_pos h13, yp_plan, b2_some]
  by_cases q15 : d = kw 15
  · rw [if_pos q15, if_pos ((k 15 (by decide) (by decide) (by decide +kernel)).mpr q15)]
  · rw [if_neg q15, if_neg (fun w => q15 ((k 15 (by decide) (by decide) (by decide +kernel)).mp w)), yp_franc, b2_some, yp_hisee, b2_some]
    by_cases q16 : d = kw 16
    · rw [if_pos q16, if_pos ((k 16 (by decide) (by decide) (by decide +kernel)).mpr q16)]
    · rw [if_neg q16, if_neg (fun w => q16 ((k 16 (by decide) (by decide) (by decide +kernel)).mp w)), yp_area, b2_some]
      by_cases q17 : d = kw 17
      · rw [if_pos q17, if_pos ((k 17 (by decide) (by decide) (by decide +kernel)).mpr q17)]
      · rw [if_neg q17, if_neg (fun w => q17 ((k 17 (by decide) (by decide) (by decide +kernel)).mp w)), yp_outle, b2_some]
        by_cases q18 : d = kw 18
        · rw [if_pos q18, if_pos ((k 18 (by decide) (by decide) (by decide +kernel)).mpr q18)]
        · rw [if_neg q18, if_neg (fun w => q18 ((k 18 (by decide) (by decide) (by decide +kernel)).mp w)), yp_credi, b2_some]
          by_cases q19 : d = kw 19
          · rw [if_pos q19, if_pos ((k 19 (by decide) (by decide) (by decide +kernel)).mpr q19)]
          · rw [if_neg q19, if_neg (fun w => q19 ((k 19 (by decide) (by decide) (by decide +kernel)).mp w)), yp_inter, b2_some, yp_est, b2_some]
            by_cases q20 : d = kw 20
            · rw [if_pos q20, if_pos ((k 20 (by decide) (by decide) (by decide +kernel)).mpr q20)]
            · rw [if_neg q20, if_neg (fun w => q20 ((k 20 (by decide) (by decide) (by decide +kernel)).mp w)), yp_admin, b2_some]
              by_cases q21 : d = kw 21
              · rw [if_pos q21, if_pos ((k 21 (by decide) (by decide) (by decide +kernel)).mpr q21)]
              · rw [if_neg q21, if_neg (fun w => q21 ((k 21 (by decide) (by decide) (by decide +kernel)).mp w)), yp_fee, b2_some]
                by_cases q22 : d = kw 22
                · rw [if_pos q22, if_pos ((k 22 (by decide) (by decide) (by decide +kernel)).mpr q22)]
                · rw [if_neg q22, if_neg (fun w => q22 ((k 22 (by decide) (by decide) (by decide +kernel)).mp w)), yp_delay, b2_some]
                  by_cases q23 : d = kw 23
                  · rw [if_pos q23, if_pos ((k 23 (by decide) (by decide) (by decide +kernel)).mpr q23)]
                  · rw [if_neg q23, if_neg (fun w => q23 ((k 23 (by decide) (by decide) (by decide +kernel)).mp w)), yp_worth, b2_some]
                    by_cases q24 : d = kw 24
                    · rw [if_pos q24, if_pos ((k 24 (by decide) (by decide) (by decide +kernel)).mpr q24)]
                    · rw [if_neg q24, if_neg (fun w => q24 ((k 24 (by decide) (by decide) (by decide +kernel)).mp w))]
theorem y_enk {d : List Nat} (h13 : tSc t 13 = 1) (hv : t.2.2.2.2 = Int64.ofNat (wpk d)) (hd : wrd d) : t_X6_entryKind E t = some (enI d, t) := by
  have k : ∀ i, i < 27 → i ≠ 7 → ∀ {c : Int64}, c = Int64.ofNat (wpk (kw i)) → (t.2.2.2.2 = c ↔ d = kw i) := fun i h1 h2 c hc => by
    rw [hv, hc]
    exact (wrd_kw hd h1 h2).2
  unfold t_X6_entryKind t_X6_entryKind_b0 t_X6_entryKind_b203 enI
  rw [if_pos h13, yp_sales, b2_some]
  by_cases q8 : d = kw 8
  · rw [if_pos q8, if_pos ((k 8 (by decide) (by decide) (by decide +kernel)).mpr q8)]
  · rw [if_neg q8, if_neg (fun w => q8 ((k 8 (by decide) (by decide) (by decide +kernel)).mp w)), yp_deliv, b2_some, yp_er, b2_some]
    by_cases q9 : d = kw 9
    · rw [if_pos q9, if_pos ((k 9 (by decide) (by decide) (by decide +kernel)).mpr q9)]
    · rw [if_neg q9, if_neg (fun w => q9 ((k 9 (by decide) (by decide) (by decide +kernel)).mp w)), yp_pay, b2_some]
      by_cases q10 : d = kw 10
      · rw [if_pos q10, if_pos ((k 10 (by decide) (by decide) (by decide +kernel)).mpr q10)]
      · rw [if_neg q10, if_neg (fun w => q10 ((k 10 (by decide) (by decide) (by decide +kernel)).mp w)), yp_grant, b2_some]
        by_cases q11 : d = kw 11
        · rw [if_pos q11, if_pos ((k 11 (by decide) (by decide) (by decide +kernel)).mpr q11)]
        · rw [if_neg q11, if_neg (fun w => q11 ((k 11 (by decide) (by decide) (by decide +kernel)).mp w)), yp_campa, b2_some, yp_ign, b2_some]
          by_cases q12 : d = kw 12
          · rw [if_pos q12, if_pos ((k 12 (by decide) (by decide) (by decide +kernel)).mpr q12)]
          · rw [if_neg q12, if_neg (fun w => q12 ((k 12 (by decide) (by decide) (by decide +kernel)).mp w)), yp_vote, b2_some]
            by_cases q13 : d = kw 13
            · rw [if_pos q13, if_pos ((k 13 (by decide) (by decide) (by decide +kernel)).mpr q13)]
            · rw [if_neg q13, if_neg (fun w => q13 ((k 13 (by decide) (by decide) (by decide +kernel)).mp w)), yp_close, b2_some]
              by_cases q14 : d = kw 14
              · rw [if_pos q14, if_pos ((k 14 (by decide) (by decide) (by decide +kernel)).mpr q14)]
              · rw [if_neg q14, if_neg (fun w => q14 ((k 14 (by decide) (by decide) (by decide +kernel)).mp w))]
theorem y_stm0 (h13 : tSc t 13 ≠ 1) : t_X6_statement E t = some (-1, t) := by
  unfold t_X6_statement t_X6_statement_b0
  rw [if_neg h13]
theorem y_enk0 (h13 : tSc t 13 ≠ 1) : t_X6_entryKind E t = some (-1, t) := by
  unfold t_X6_entryKind t_X6_entryKind_b0
  rw [if_neg h13]
end TW
section RS
variable {p : cP} {s : cT} {g : zH} {E : zE} {rd a : Nat} {d : List Nat}
/-- behind a hash -/
def hG (p : cP) (g g1 : zH) (v : Nat) : Prop := g1.2 = g.2 ∧ (∀ b, b ≠ v → g1.1 b = g.1 b) ∧ p.2 v = none ∧ svw (rv0 p g) (rv0 p g1)
theorem kw_eq (hE : 20000 ≤ E.1) (hL : Lt E (rv0 p g)) (hd : wrd d) (hk : StrH (rv0 p g) a (chd d)) : cko (cH p s g) a 19 = some () ∧ ∀ j, j < 27 → j ≠ 7 → f_J9_equals_J9 E a (E.2.1 j) (cH p s g) = some (bi (d = kw j), cH p s g) := by
  refine ⟨(str_len (E := E) (StrH_Str hk)).1, fun j h1 h2 => ?_⟩
  rw [str_eq hE (StrH_Str hk) (hL j h1) (by rw [chd_len]; have := hd.2.1; omega), bi_c (wrd_kw hd h1 h2).1]
theorem Lt_svw {f f1 : Nat → Option zC} (h : svw f f1) (k : Lt E f) : Lt E f1 := fun i hi => h.1 _ _ (k i hi)
/-- isReserved -/
theorem x_res (hE : 20000 ≤ E.1) (hp : okP p s) (hx : px p) (hL : Lt E (rv0 p g)) (hrd : s.1 rd = (1, 6)) (h7 : s.2.2.2 rd 7 = some (XT + a)) (hd : wrd d) (hk : StrH (rv0 p g) a (chd d)) : ∃ g1, hG p g g1 a ∧ f_X7_isReserved E (p.1 rd) (cH p s g) = some (bi (resd d), cH p s g1) := by
  obtain ⟨g1, e1, hg⟩ := str_hash (s := s) hE hk
  have hk1 := hg.2.2.2.2 a _ hk
  obtain ⟨ck0, -⟩ := kw_eq (s := s) hE hL hd hk
  obtain ⟨ck, eq⟩ := kw_eq (s := s) hE (Lt_svw hg.2.2.2 hL) hd hk1
  refine ⟨g1, hg, ?_⟩
  have r7 : gR (cH p s g) (p.1 rd) 6 7 = some a := by
    have := c_gR (g := g) hp hrd rfl h7
    rw [hx] at this
    exact this
  unfold f_X7_isReserved f_X7_isReserved_b0 f_X7_isReserved_b241 f_X7_isReserved_b296 f_X7_isReserved_b301
  rw [r7, b1_some, ck0, b1_some, e1, b2_some]
  by_cases hr : resd d
  · rw [bi_t hr]
    obtain ⟨i, h1, h2, h3⟩ := hr
    subst h3
    rcases res_c h1 h2 with rfl | rfl | rfl | rfl | rfl | rfl | rfl | rfl | rfl | rfl
    · rw [hs_15, if_neg (by decide), if_neg (by decide), if_neg (by decide), if_neg (by decide), if_pos rfl, ck, b1_some, eq 15 (by decide) (by decide), b2_some, bi_t rfl, if_neg (by decide), if_pos rfl, zgd1, b1_some]
    · rw [hs_16, if_neg (by decide), if_neg (by decide), if_neg (by decide), if_neg (by decide), if_neg (by decide), if_neg (by decide), if_neg (by decide), if_neg (by decide), if_pos rfl, ck, b1_some, eq 16 (by decide) (by decide), b2_some, bi_t rfl, if_neg (by decide), if_neg (by decide), if_pos rfl, zgd1, b1_some]
    · rw [hs_17, if_neg (by decide), if_neg (by decide), if_neg (by decide), if_pos rfl, ck, b1_some, eq 17 (by decide) (by decide), b2_some, bi_t rfl, if_neg (by decide), if_neg (by decide), if_neg (by decide), if_pos rfl, zgd1, b1_some]
    · rw [hs_18, if_neg (by decide), if_pos rfl, ck, b1_some, eq 18 (by decide) (by decide), b2_some, bi_t rfl, if_neg (by decide), if_neg (by decide), if_neg (by decide), if_neg (by decide), if_pos rfl, zgd1, b1_some]
    · rw [hs_19, if_pos rfl, ck, b1_some, eq 19 (by decide) (by decide), b2_some, bi_t rfl, if_neg (by decide), if_neg (by decide), if_neg (by decide), if_neg (by decide), if_neg (by decide), if_pos rfl, zgd1, b1_some]
    · rw [hs_20, if_neg (by decide), if_neg (by decide), if_neg (by decide), if_neg (by decide), if_neg (by decide), if_neg (by decide), if_neg (by decide), if_neg (by decide), if_neg (by decide), if_pos rfl, ck, b1_some, eq 20 (by decide) (by decide), b2_some, bi_t rfl, if_neg (by decide), if_neg (by decide), if_neg (by decide), if_neg (by decide), if_neg (by decide), if_neg (by decide), if_pos rfl, zgd1, b1_some]
    · rw [hs_21, if_neg (by decide), if_neg (by decide), if_neg (by decide), if_neg (by decide), if_neg (by decide), if_pos rfl, ck, b1_some, eq 21 (by decide) (by decide), b2_some, bi_t rfl, if_neg (by decide), if_neg (by decide), if_neg (by decide), if_neg (by decide), if_neg (by decide), if_neg (by decide), if_neg (by decide), if_pos rfl, zgd1, b1_some]
    · rw [hs_22, if_neg (by decide), if_neg (by decide), if_pos rfl, ck, b1_some, eq 22 (by decide) (by decide), b2_some, bi_t rfl, if_neg (by decide), if_neg (by decide), if_neg (by decide), if_neg (by decide), if_neg (by decide), if_neg (by decide), if_neg (by decide), if_neg (by decide), if_pos rfl, zgd1, b1_some]
    · rw [hs_23, if_neg (by decide), if_neg (by decide), if_neg (by decide), if_neg (by decide), if_neg (by decide), if_neg (by decide), if_pos rfl, ck, b1_some, eq 23 (by decide) (by decide), b2_some, bi_t rfl, if_neg (by decide), if_neg (by decide), if_neg (by decide), if_neg (by decide), if_neg (by decide), if_neg (by decide), if_neg (by decide), if_neg (by decide), if_neg (by decide), if_pos rfl, zgd1, b1_some]
    · rw [hs_24, if_neg (by decide), if_neg (by decide), if_neg (by decide), if_neg (by decide), if_neg (by decide), if_neg (by decide), if_neg (by decide), if_pos rfl, ck, b1_some, eq 24 (by decide) (by decide), b2_some, bi_t rfl, if_neg (by decide), if_neg (by decide), if_neg (by decide), if_neg (by decide), if_neg (by decide), if_neg (by decide), if_neg (by decide), if_neg (by decide), if_neg (by decide), if_neg (by decide), if_pos rfl, zgd1, b1_some]
  · rw [bi_f hr]
    have hn : ∀ j, 15 ≤ j → j < 25 → d ≠ kw j := fun j h1 h2 h3 => hr ⟨j, h1, h2, h3⟩
    have fin : ∀ hh : zH, (if (-1 : Int32) = 0 then (zgd .boolean (1 : Int32)).bind fun _ => some ((1 : Int32), hh) else if (-1 : Int32) = 1 then (zgd .boolean (1 : Int32)).bind fun _ => some ((1 : Int32), hh) else if (-1 : Int32) = 2 then (zgd .boolean (1 : Int32)).bind fun _ => some ((1 : Int32), hh) else if (-1 : Int32) = 3 then (zgd .boolean (1 : Int32)).bind fun _ => some ((1 : Int32), hh) else if (-1 : Int32) = 4 then (zgd .boolean (1 : Int32)).bind fun _ => some ((1 : Int32), hh) else if (-1 : Int32) = 5 then (zgd .boolean (1 : Int32)).bind fun _ => some ((1 : Int32), hh) else if (-1 : Int32) = 6 then (zgd .boolean (1 : Int32)).bind fun _ => some ((1 : Int32), hh) else if (-1 : Int32) = 7 then (zgd .boolean (1 : Int32)).bind fun _ => some ((1 : Int32), hh) else if (-1 : Int32) = 8 then (zgd .boolean (1 : Int32)).bind fun _ => some ((1 : Int32), hh) else if (-1 : Int32) = 9 then (zgd .boolean (1 : Int32)).bind fun _ => some ((1 : Int32), hh) else (zgd .boolean (0 : Int32)).bind fun _ => some ((0 : Int32), hh)) = some ((0 : Int32), hh) := fun hh => rfl
    by_cases q0 : hsh (chd d) = (-1352291591 : Int32)
    · rw [if_pos q0, ck, b1_some, eq 19 (by decide) (by decide), b2_some, bi_f (hn 19 (by decide) (by decide)), if_pos rfl, fin]
    · rw [if_neg q0]
      by_cases q1 : hsh (chd d) = (-1005516787 : Int32)
      · rw [if_pos q1, ck, b1_some, eq 18 (by decide) (by decide), b2_some, bi_f (hn 18 (by decide) (by decide)), if_pos rfl, fin]
      · rw [if_neg q1]
        by_cases q2 : hsh (chd d) = (101254 : Int32)
        · rw [if_pos q2, ck, b1_some, eq 22 (by decide) (by decide), b2_some, bi_f (hn 22 (by decide) (by decide)), if_pos rfl, fin]
        · rw [if_neg q2]
          by_cases q3 : hsh (chd d) = (3002509 : Int32)
          · rw [if_pos q3, ck, b1_some, eq 17 (by decide) (by decide), b2_some, bi_f (hn 17 (by decide) (by decide)), if_pos rfl, fin]
          · rw [if_neg q3]
            by_cases q4 : hsh (chd d) = (3443497 : Int32)
            · rw [if_pos q4, ck, b1_some, eq 15 (by decide) (by decide), b2_some, bi_f (hn 15 (by decide) (by decide)), if_pos rfl, fin]
            · rw [if_neg q4]
              by_cases q5 : hsh (chd d) = (92668751 : Int32)
              · rw [if_pos q5, ck, b1_some, eq 21 (by decide) (by decide), b2_some, bi_f (hn 21 (by decide) (by decide)), if_pos rfl, fin]
              · rw [if_neg q5]
                by_cases q6 : hsh (chd d) = (95467907 : Int32)
                · rw [if_pos q6, ck, b1_some, eq 23 (by decide) (by decide), b2_some, bi_f (hn 23 (by decide) (by decide)), if_pos rfl, fin]
                · rw [if_neg q6]
                  by_cases q7 : hsh (chd d) = (113319054 : Int32)
                  · rw [if_pos q7, ck, b1_some, eq 24 (by decide) (by decide), b2_some, bi_f (hn 24 (by decide) (by decide)), if_pos rfl, fin]
                  · rw [if_neg q7]
                    by_cases q8 : hsh (chd d) = (567722088 : Int32)
                    · rw [if_pos q8, ck, b1_some, eq 16 (by decide) (by decide), b2_some, bi_f (hn 16 (by decide) (by decide)), if_pos rfl, fin]
                    · rw [if_neg q8]
                      by_cases q9 : hsh (chd d) = (570402602 : Int32)
                      · rw [if_pos q9, ck, b1_some, eq 20 (by decide) (by decide), b2_some, bi_f (hn 20 (by decide) (by decide)), if_pos rfl, fin]
                      · rw [if_neg q9, fin]
/-- kindHere's switch -/
theorem x_knd {F : Int32 → zH → Option ((Int32 ⊕ (Nat × Nat)) × zH)} (hE : 20000 ≤ E.1) (hL : Lt E (rv0 p g)) (hd : wrd d) (hk : StrH (rv0 p g) a (chd d)) : ∃ g1, hG p g g1 a ∧ (bnd2 (f_J9_hashCode E a (cH p s g)) fun x12 h10 =>
    if x12 = -139919088 then ((cko h10 a 19).bind fun _ => bnd2 (f_J9_equals_J9 E a (E.2.1 12) h10) fun x17 h15 => if x17 = 0 then F (-1 : Int32) h15 else F (4 : Int32) h15) else (
    if x12 = 110760 then ((cko h10 a 19).bind fun _ => bnd2 (f_J9_equals_J9 E a (E.2.1 10) h10) fun x17 h15 => if x17 = 0 then F (-1 : Int32) h15 else F (2 : Int32) h15) else (
    if x12 = 3625706 then ((cko h10 a 19).bind fun _ => bnd2 (f_J9_equals_J9 E a (E.2.1 13) h10) fun x17 h15 => if x17 = 0 then F (-1 : Int32) h15 else F (5 : Int32) h15) else (
    if x12 = 94756344 then ((cko h10 a 19).bind fun _ => bnd2 (f_J9_equals_J9 E a (E.2.1 14) h10) fun x17 h15 => if x17 = 0 then F (-1 : Int32) h15 else F (6 : Int32) h15) else (
    if x12 = 98615580 then ((cko h10 a 19).bind fun _ => bnd2 (f_J9_equals_J9 E a (E.2.1 11) h10) fun x17 h15 => if x17 = 0 then F (-1 : Int32) h15 else F (3 : Int32) h15) else (
    if x12 = 109201676 then ((cko h10 a 19).bind fun _ => bnd2 (f_J9_equals_J9 E a (E.2.1 8) h10) fun x17 h15 => if x17 = 0 then F (-1 : Int32) h15 else F (0 : Int32) h15) else (
    if x12 = 1550584101 then ((cko h10 a 19).bind fun _ => bnd2 (f_J9_equals_J9 E a (E.2.1 9) h10) fun x17 h15 => if x17 = 0 then F (-1 : Int32) h15 else F (1 : Int32) h15) else (
    F (-1 : Int32) h10)))))))) = F (enI d) (cH p s g1) := by
  obtain ⟨g1, e1, hg⟩ := str_hash (s := s) hE hk
  have hk1 := hg.2.2.2.2 a _ hk
  obtain ⟨ck, eq⟩ := kw_eq (s := s) hE (Lt_svw hg.2.2.2 hL) hd hk1
  refine ⟨g1, hg, ?_⟩
  rw [e1, b2_some]
  by_cases hr : ∃ i, 8 ≤ i ∧ i < 15 ∧ d = kw i
  · obtain ⟨i, h1, h2, h3⟩ := hr
    subst h3
    rw [enI_kw i h1 h2]
    have hc : i = 8 ∨ i = 9 ∨ i = 10 ∨ i = 11 ∨ i = 12 ∨ i = 13 ∨ i = 14 := by omega
    rcases hc with rfl | rfl | rfl | rfl | rfl | rfl | rfl
    · rw [hs_8, if_neg (by decide), if_neg (by decide), if_neg (by decide), if_neg (by decide), if_neg (by decide), if_pos rfl, ck, b1_some, eq 8 (by decide) (by decide), b2_some, bi_t rfl, if_neg (by decide)]; rfl
    · rw [hs_9, if_neg (by decide), if_neg (by decide), if_neg (by decide), if_neg (by decide), if_neg (by decide), if_neg (by decide), if_pos rfl, ck, b1_some, eq 9 (by decide) (by decide), b2_some, bi_t rfl, if_neg (by decide)]; rfl
    · rw [hs_10, if_neg (by decide), if_pos rfl, ck, b1_some, eq 10 (by decide) (by decide), b2_some, bi_t rfl, if_neg (by decide)]; rfl
    · rw [hs_11, if_neg (by decide), if_neg (by decide), if_neg (by decide), if_neg (by decide), if_pos rfl, ck, b1_some, eq 11 (by decide) (by decide), b2_some, bi_t rfl, if_neg (by decide)]; rfl
    · rw [hs_12, if_pos rfl, ck, b1_some, eq 12 (by decide) (by decide), b2_some, bi_t rfl, if_neg (by decide)]; rfl
    · rw [hs_13, if_neg (by decide), if_neg (by decide), if_pos rfl, ck, b1_some, eq 13 (by decide) (by decide), b2_some, bi_t rfl, if_neg (by decide)]; rfl
    · rw [hs_14, if_neg (by decide), if_neg (by decide), if_neg (by decide), if_pos rfl, ck, b1_some, eq 14 (by decide) (by decide), b2_some, bi_t rfl, if_neg (by decide)]; rfl
  · have hn : ∀ j, 8 ≤ j → j < 15 → d ≠ kw j := fun j h1 h2 h3 => hr ⟨j, h1, h2, h3⟩
    rw [enI_n hn]
    by_cases q0 : hsh (chd d) = (-139919088 : Int32)
    · rw [if_pos q0, ck, b1_some, eq 12 (by decide) (by decide), b2_some, bi_f (hn 12 (by decide) (by decide)), if_pos rfl]
    · rw [if_neg q0]
      by_cases q1 : hsh (chd d) = (110760 : Int32)
      · rw [if_pos q1, ck, b1_some, eq 10 (by decide) (by decide), b2_some, bi_f (hn 10 (by decide) (by decide)), if_pos rfl]
      · rw [if_neg q1]
        by_cases q2 : hsh (chd d) = (3625706 : Int32)
        · rw [if_pos q2, ck, b1_some, eq 13 (by decide) (by decide), b2_some, bi_f (hn 13 (by decide) (by decide)), if_pos rfl]
        · rw [if_neg q2]
          by_cases q3 : hsh (chd d) = (94756344 : Int32)
          · rw [if_pos q3, ck, b1_some, eq 14 (by decide) (by decide), b2_some, bi_f (hn 14 (by decide) (by decide)), if_pos rfl]
          · rw [if_neg q3]
            by_cases q4 : hsh (chd d) = (98615580 : Int32)
            · rw [if_pos q4, ck, b1_some, eq 11 (by decide) (by decide), b2_some, bi_f (hn 11 (by decide) (by decide)), if_pos rfl]
            · rw [if_neg q4]
              by_cases q5 : hsh (chd d) = (109201676 : Int32)
              · rw [if_pos q5, ck, b1_some, eq 8 (by decide) (by decide), b2_some, bi_f (hn 8 (by decide) (by decide)), if_pos rfl]
              · rw [if_neg q5]
                by_cases q6 : hsh (chd d) = (1550584101 : Int32)
                · rw [if_pos q6, ck, b1_some, eq 9 (by decide) (by decide), b2_some, bi_f (hn 9 (by decide) (by decide)), if_pos rfl]
                · rw [if_neg q6]
/-- the switch of a statement *(the word is reserved)* -/
theorem x_sts {α : Type} {F : Int32 → zH → Option α} (hE : 20000 ≤ E.1) (hL : Lt E (rv0 p g)) (hd : wrd d) (hk : StrH (rv0 p g) a (chd d)) (hres : resd d) : ∃ g1, hG p g g1 a ∧ (bnd2 (f_J9_hashCode E a (cH p s g)) fun x12 h10 =>
    if x12 = -1005516787 then ((cko h10 a 19).bind fun _ => bnd2 (f_J9_equals_J9 E a (E.2.1 18) h10) fun x17 h15 => if x17 = 0 then F (-1 : Int32) h15 else F (3 : Int32) h15) else (
    if x12 = 3002509 then ((cko h10 a 19).bind fun _ => bnd2 (f_J9_equals_J9 E a (E.2.1 17) h10) fun x17 h15 => if x17 = 0 then F (-1 : Int32) h15 else F (2 : Int32) h15) else (
    if x12 = 3443497 then ((cko h10 a 19).bind fun _ => bnd2 (f_J9_equals_J9 E a (E.2.1 15) h10) fun x17 h15 => if x17 = 0 then F (-1 : Int32) h15 else F (0 : Int32) h15) else (
    if x12 = 567722088 then ((cko h10 a 19).bind fun _ => bnd2 (f_J9_equals_J9 E a (E.2.1 16) h10) fun x17 h15 => if x17 = 0 then F (-1 : Int32) h15 else F (1 : Int32) h15) else (
    F (-1 : Int32) h10))))) = F (if stI d < 4 then stI d else -1) (cH p s g1) := by
  obtain ⟨g1, e1, hg⟩ := str_hash (s := s) hE hk
  have hk1 := hg.2.2.2.2 a _ hk
  obtain ⟨ck, eq⟩ := kw_eq (s := s) hE (Lt_svw hg.2.2.2 hL) hd hk1
  refine ⟨g1, hg, ?_⟩
  rw [e1, b2_some]
  obtain ⟨i, h1, h2, h3⟩ := hres
  subst h3
  rw [stI_kw i h1 h2]
  rcases res_c h1 h2 with rfl | rfl | rfl | rfl | rfl | rfl | rfl | rfl | rfl | rfl
  · rw [hs_15, if_neg (by decide), if_neg (by decide), if_pos rfl, ck, b1_some, eq 15 (by decide) (by decide), b2_some, bi_t rfl, if_neg (by decide)]; rfl
  · rw [hs_16, if_neg (by decide), if_neg (by decide), if_neg (by decide), if_pos rfl, ck, b1_some, eq 16 (by decide) (by decide), b2_some, bi_t rfl, if_neg (by decide)]; rfl
  · rw [hs_17, if_neg (by decide), if_pos rfl, ck, b1_some, eq 17 (by decide) (by decide), b2_some, bi_t rfl, if_neg (by decide)]; rfl
  · rw [hs_18, if_pos rfl, ck, b1_some, eq 18 (by decide) (by decide), b2_some, bi_t rfl, if_neg (by decide)]; rfl
  · rw [hs_19, if_neg (by decide), if_neg (by decide), if_neg (by decide), if_neg (by decide)]; rfl
  · rw [hs_20, if_neg (by decide), if_neg (by decide), if_neg (by decide), if_neg (by decide)]; rfl
  · rw [hs_21, if_neg (by decide), if_neg (by decide), if_neg (by decide), if_neg (by decide)]; rfl
  · rw [hs_22, if_neg (by decide), if_neg (by decide), if_neg (by decide), if_neg (by decide)]; rfl
  · rw [hs_23, if_neg (by decide), if_neg (by decide), if_neg (by decide), if_neg (by decide)]; rfl
  · rw [hs_24, if_neg (by decide), if_neg (by decide), if_neg (by decide), if_neg (by decide)]; rfl
/-- the switch of a setting *(the word is reserved, 4 and more)* -/
theorem x_set {α : Type} {F : Int32 → zH → Option α} (hE : 20000 ≤ E.1) (hL : Lt E (rv0 p g)) (hd : wrd d) (hk : StrH (rv0 p g) a (chd d)) {i : Nat} (h1 : 19 ≤ i) (h2 : i < 25) (h3 : d = kw i) : ∃ g1, hG p g g1 a ∧ (bnd2 (f_J9_hashCode E a (cH p s g)) fun x12 h10 =>
    if x12 = -1352291591 then ((cko h10 a 19).bind fun _ => bnd2 (f_J9_equals_J9 E a (E.2.1 19) h10) fun x17 h15 => if x17 = 0 then F (-1 : Int32) h15 else F (0 : Int32) h15) else (
    if x12 = 101254 then ((cko h10 a 19).bind fun _ => bnd2 (f_J9_equals_J9 E a (E.2.1 22) h10) fun x17 h15 => if x17 = 0 then F (-1 : Int32) h15 else F (3 : Int32) h15) else (
    if x12 = 92668751 then ((cko h10 a 19).bind fun _ => bnd2 (f_J9_equals_J9 E a (E.2.1 21) h10) fun x17 h15 => if x17 = 0 then F (-1 : Int32) h15 else F (2 : Int32) h15) else (
    if x12 = 95467907 then ((cko h10 a 19).bind fun _ => bnd2 (f_J9_equals_J9 E a (E.2.1 23) h10) fun x17 h15 => if x17 = 0 then F (-1 : Int32) h15 else F (4 : Int32) h15) else (
    if x12 = 570402602 then ((cko h10 a 19).bind fun _ => bnd2 (f_J9_equals_J9 E a (E.2.1 20) h10) fun x17 h15 => if x17 = 0 then F (-1 : Int32) h15 else F (1 : Int32) h15) else (
    F (-1 : Int32) h10)))))) = F (if i = 24 then -1 else Int32.ofNat (i - 19)) (cH p s g1) := by
  obtain ⟨g1, e1, hg⟩ := str_hash (s := s) hE hk
  have hk1 := hg.2.2.2.2 a _ hk
  obtain ⟨ck, eq⟩ := kw_eq (s := s) hE (Lt_svw hg.2.2.2 hL) hd hk1
  refine ⟨g1, hg, ?_⟩
  rw [e1, b2_some]
  subst h3
  have hc : i = 19 ∨ i = 20 ∨ i = 21 ∨ i = 22 ∨ i = 23 ∨ i = 24 := by omega
  rcases hc with rfl | rfl | rfl | rfl | rfl | rfl
  · rw [hs_19, if_pos rfl, ck, b1_some, eq 19 (by decide) (by decide), b2_some, bi_t rfl, if_neg (by decide)]; rfl
  · rw [hs_20, if_neg (by decide), if_neg (by decide), if_neg (by decide), if_neg (by decide), if_pos rfl, ck, b1_some, eq 20 (by decide) (by decide), b2_some, bi_t rfl, if_neg (by decide)]; rfl
  · rw [hs_21, if_neg (by decide), if_neg (by decide), if_pos rfl, ck, b1_some, eq 21 (by decide) (by decide), b2_some, bi_t rfl, if_neg (by decide)]; rfl
  · rw [hs_22, if_neg (by decide), if_pos rfl, ck, b1_some, eq 22 (by decide) (by decide), b2_some, bi_t rfl, if_neg (by decide)]; rfl
  · rw [hs_23, if_neg (by decide), if_neg (by decide), if_neg (by decide), if_pos rfl, ck, b1_some, eq 23 (by decide) (by decide), b2_some, bi_t rfl, if_neg (by decide)]; rfl
  · rw [hs_24, if_neg (by decide), if_neg (by decide), if_neg (by decide), if_neg (by decide), if_neg (by decide)]; rfl
end RS
