/-! writes of a franchisee, an outlet, the fund -/
set_option maxRecDepth 100000
theorem va_app {α : Type} (f : Nat → α) (k : Nat) (v : α) (j : Nat) : va_up f k v j = if j = k then v else f j := rfl
theorem uI_app (s : cT) (c k : Nat) (v : Int32) (c1 k1 : Nat) : (uI s c k v).2.1 c1 k1 = if c1 = c ∧ k1 = k then v else s.2.1 c1 k1 := by
  by_cases h : c1 = c ∧ k1 = k
  · rw [if_pos h, h.1, h.2, uI_s]
  · rw [if_neg h, uI_ne _ _ (by omega)]
theorem uL_app (s : cT) (c k : Nat) (v : Int64) (c1 k1 : Nat) : (uL s c k v).2.2.1 c1 k1 = if c1 = c ∧ k1 = k then v else s.2.2.1 c1 k1 := by
  by_cases h : c1 = c ∧ k1 = k
  · rw [if_pos h, h.1, h.2, uL_s]
  · rw [if_neg h, uL_ne _ _ (by omega)]
theorem uI_row (s : cT) {c c1 : Nat} (h : c1 ≠ c) (k : Nat) (v : Int32) : (uI s c k v).2.1 c1 = s.2.1 c1 := cu_ne s.2.1 _ h
theorem uL_row (s : cT) {c c1 : Nat} (h : c1 ≠ c) (k : Nat) (v : Int64) : (uL s c k v).2.2.1 c1 = s.2.2.1 c1 := cu_ne s.2.2.1 _ h
theorem btw_add {x y : Int64} {a b c d : Int} (h : btw x a b) (k : btw y c d) (h1 : -9223372036854775808 ≤ a + c) (h2 : b + d < 9223372036854775808) : btw (x + y) (a + c) (b + d) := by
  have e : (x + y).toInt = x.toInt + y.toInt := by
    have := h.1; have := h.2; have := k.1; have := k.2
    rw [Int64.toInt_add, Int.bmod_eq_of_le (by omega) (by omega)]
  unfold btw
  rw [e]
  have := h.1; have := h.2; have := k.1; have := k.2
  omega
theorem btw_neg {x : Int64} {a b : Int} (h : btw x a b) (h1 : -9223372036854775808 < a) : btw (-x) (-b) (-a) := by
  have e : (-x).toInt = -x.toInt := by
    have := h.1; have := h.2; have := Int64.toInt_lt x
    rw [Int64.toInt_neg, Int.bmod_eq_of_le (by omega) (by omega)]
  unfold btw
  rw [e]
  have := h.1; have := h.2
  omega
theorem btw_w {x : Int64} {a b a1 b1 : Int} (h : btw x a b) (ha : a1 ≤ a) (hb : b ≤ b1) : btw x a1 b1 := ⟨Int.le_trans ha h.1, Int.le_trans h.2 hb⟩
theorem btw_sub {x y : Int64} {a b c d : Int} (h : btw x a b) (k : btw y c d) (h1 : -9223372036854775808 ≤ a - d) (h2 : b - c < 9223372036854775808) (h3 : -9223372036854775808 < c) : btw (x - y) (a - d) (b - c) := by
  have e : (x - y).toInt = x.toInt - y.toInt := by
    have := h.1; have := h.2; have := k.1; have := k.2
    rw [Int64.toInt_sub, Int.bmod_eq_of_le (by omega) (by omega)]
  unfold btw
  rw [e]
  have := h.1; have := h.2; have := k.1; have := k.2
  omega
theorem btw_i32 {x : Int32} {a b : Int} (h1 : a ≤ x.toInt) (h2 : x.toInt ≤ b) : btw x.toInt64 a b := by
  unfold btw
  rw [Int32.toInt_toInt64]
  exact ⟨h1, h2⟩
theorem btw_rng {x : Int64} {a b : Nat} (ha : a < 2 ^ 62) (hb : b < 2 ^ 62) (h : Int64.ofNat a ≤ x ∧ x ≤ Int64.ofNat b) : btw x a b := by
  obtain ⟨h1, h2⟩ := h
  rw [Int64.le_iff_toInt_le, Int64.toInt_ofNat_of_lt (by omega)] at h1
  rw [Int64.le_iff_toInt_le, Int64.toInt_ofNat_of_lt (by omega)] at h2
  exact ⟨h1, h2⟩
theorem btw_amt {x : Int64} (h : (1 : Int64) ≤ x ∧ x ≤ 1000000000) : btw x 1 1000000000 := btw_rng (a := 1) (b := 1000000000) (by decide) (by decide) h
section PO
variable {E : zE} {N : iN} {mo n : Nat} {s s1 : cT} {t t1 : twS} {g g1 : zH}
theorem Po_fr (h : Pr E N mo n s t g) {i : Nat} (hi : i < N.2.1) (hT : okT t t1) (hg : gx g g1 300 3000) (ht : ∀ y, y < 58 + 16 * i ∨ 74 + 16 * i ≤ y → t1.1 y = t.1 y) (h0 : s1.1 = s.1) (hR : s1.2.2.2 = s.2.2.2) (hs : ∀ c, c ≠ N.1 + 130 + i → c ≠ N.1 + 140 + i → s1.2.1 c = s.2.1 c ∧ s1.2.2.1 c = s.2.2.1 c) (hf : frR s1 t1.1 (N.1 + 130 + i) (N.1 + 140 + i) (58 + 16 * i)) (hfI : frI t1.1 (58 + 16 * i) N.2.2.2.1 mo (n + 1)) : Po N mo n s t g s1 t1 g1 := by
  obtain ⟨hB, hI, hRR, hJ, hE, hr, hS, hO, hS3, hS8, hnn⟩ := h
  have h8 := hI.1.2.1
  exact ⟨RB_fr hB ⟨hI.1.2.1, hI.1.2.2.1⟩ hi ⟨(hS i hi).1, (hS i hi).2.1⟩ ht h0 hR hs hf, IV_fr hI hi ht (Nat.le_succ n) hfI, ⟨h0, hR, fun c hc _ => hs c (by omega) (by omega)⟩, hT, hg⟩
theorem Po_ou (h : Pr E N mo n s t g) {i : Nat} (hi : i < N.2.2.1) (hT : okT t t1) (hg : gx g g1 300 3000) (ht : ∀ y, y < 186 + 4 * i ∨ 190 + 4 * i ≤ y → t1.1 y = t.1 y) (h0 : s1.1 = s.1) (hR : s1.2.2.2 = s.2.2.2) (hs : ∀ c, c ≠ N.1 + 170 + i → s1.2.1 c = s.2.1 c ∧ s1.2.2.1 c = s.2.2.1 c) (hf : ouR s1 t1.1 (N.1 + 170 + i) (186 + 4 * i)) (hfI : btw (t1.1 (186 + 4 * i + 0)) (-1) (N.2.1 - 1) ∧ btw (t1.1 (186 + 4 * i + 3)) 0 10000000) : Po N mo n s t g s1 t1 g1 := by
  obtain ⟨hB, hI, hRR, hJ, hE, hr, hS, hO, hS3, hS8, hnn⟩ := h
  have h16 := hI.1.2.2.1
  exact ⟨RB_ou hB ⟨hI.1.2.1, hI.1.2.2.1⟩ hi (hO i hi) ht h0 hR hs hf, IV_ou hI hi ht (Nat.le_succ n) hfI, ⟨h0, hR, fun c hc _ => hs c (by omega)⟩, hT, hg⟩
theorem Po_sp (h : Pr E N mo n s t g) (hT : okT t t1) (hg : gx g g1 300 3000) (ht : ∀ y, y < 11 ∨ 14 ≤ y → t1.1 y = t.1 y) (h0 : s1.1 = s.1) (hR : s1.2.2.2 = s.2.2.2) (hI1 : s1.2.1 = s.2.1) (hs : ∀ c, c ≠ N.1 + 20 → s1.2.2.1 c = s.2.2.1 c) (hf : ∀ k, k < 3 → t1.1 (11 + k) = s1.2.2.1 (N.1 + 20) k) : Po N mo n s t g s1 t1 g1 := by
  obtain ⟨hB, hI, hRR, hJ, hE, hr, hS, hO, hS3, hS8, hnn⟩ := h
  exact ⟨RB_sp hB ⟨hI.1.2.1, hI.1.2.2.1⟩ hS3 ht h0 hR hI1 hs hf, IV_cg hI (fun y hy => ht y (Or.inr hy)) (Nat.le_succ n), ⟨h0, hR, fun c hc _ => ⟨by rw [hI1], hs c (by omega)⟩⟩, hT, hg⟩
theorem o_pay (h : Pr E N mo n s t g) (p1 : Int32) (p2 : Int64) : Ww (c_X1_pay E N p1 p2 s g) fun z => Ww (t_X6_pay E p1 p2 t) fun w => Rs ec2 z.1 w.1 (tSc w.2 2) ∧ Po N mo n s t g z.2.1 w.2 z.2.2 := by
  have hP := h
  obtain ⟨hB, hI, hR, hJ, hE, hr, hS, hO, hS3, hS8, hnn, h200⟩ := h
  obtain ⟨h60, h8, h16, h4⟩ := hI.1
  have hE1 : 1000 ≤ E.1 := by omega
  have hN1 : N.2.1 < 1000 := by omega
  have hN2 : N.2.2.1 < 1000 := by omega
  have hN3 : N.2.1 < 2 ^ 31 := by omega
  have hN4 : N.2.2.2.1 < 2 ^ 31 := by omega
  have rB : ∀ k m, k ≤ 300 → m ≤ 3000 → rm g k m := fun k m a b => rm_le hr a b
  simp (maxDischargeDepth := 12) only [c_X1_pay_b0, c_X1_pay, w_bnd2, w_bind, w_some, w_ite, el_l, el_r, b1_some, b2_some, bi_if, bi_30, bi_0, zgd_bi, zgd0, zgd1, Classical.not_not, x_nA1, x_nA2, x_nA4, x_sI10, x_sI20, x_sI21, x_sI40, x_sI41, x_sI42, x_sI43, gb1, gb2, gb4, x_isP, x_isAm, x_isAc, x_isOp, x_isOT, rm_gt, rm_ge, rB, Nat.reduceAdd, Nat.reduceLeDiff, Nat.reduceLT, not_true_eq_false, not_false_eq_true, forall_const, false_implies, true_implies, and_true, true_and, and_self, i10, n10, true_or, or_true, false_or, or_false, false_and, and_false, w_rI hE1, w_rA hE1, w_fr hE1 hN1, w_ou hE1 hN2, x_isFr hN3, x_isPl hN4]
  refine ⟨fun i e hi => ⟨fun ha => ?_, fun ha => ?_⟩, fun hn => ?_⟩
  · subst e
    simp (maxDischargeDepth := 12) only [t_X6_pay_b50, t_X6_pay_b43, t_X6_pay_b19, t_X6_pay_b0, t_X6_pay, not_true_eq_false, not_false_eq_true, forall_const, false_implies, true_implies, and_true, true_and, and_self, i10, n10, true_or, or_true, false_or, or_false, false_and, and_false, w_bnd2, w_bind, w_some, w_ite, w_thr, w_thr0, w_thr1, y_thr0, y_thr1, b1_some, b2_some, bi_0, zgd_bi, zgd0, zgd1, Classical.not_not, uSc_1, uSt_1, uAm_1, uAr_1, tS_s, tS_st, y_isCell, y_inRange, bi_if, bi_30, y_isOver, y_isFr (t := uSc t 2 0) hB hN3, inF_n (show i < 2 ^ 31 by omega), hi, y_of4 (show i < 8 by omega), y_add4 (show i < 8 by omega), ha]
    refine ⟨Rs_l ?_, Po_fr hP hi (by repeat first | exact okT_rfl _ | exact ncst_fr (by omega) (by decide) | exact ncst_of (by omega) | apply okT_thr | apply okT_st | apply okT_ar | apply okT_am) (by first | exact gxw (gx_rfl _) (by decide) (by decide) | exact gxw (gx_ge1 (gx_rfl _)) (by decide) (by decide) | exact gxw (gx_gt1 (gx_rfl _)) (by decide) (by decide) | exact gxw (gx_ge1 (gx_gt1 (gx_rfl _))) (by decide) (by decide) | exact gxw (gx_gt1 (gx_gt1 (gx_rfl _))) (by decide) (by decide) | exact gxw (gx_ge1 (gx_gt1 (gx_gt1 (gx_rfl _)))) (by decide) (by decide) | exact gxw (gx_gt1 (gx_gt1 (gx_gt1 (gx_rfl _)))) (by decide) (by decide) | exact gxw (gx_ge1 (gx_gt1 (gx_gt1 (gx_gt1 (gx_rfl _))))) (by decide) (by decide) | exact gxw (gx_gt1 (gx_gt1 (gx_gt1 (gx_gt1 (gx_rfl _))))) (by decide) (by decide) | exact gxw (gx_ge1 (gx_gt1 (gx_gt1 (gx_gt1 (gx_gt1 (gx_rfl _)))))) (by decide) (by decide) | exact gxw (gx_gt1 (gx_gt1 (gx_gt1 (gx_gt1 (gx_gt1 (gx_rfl _)))))) (by decide) (by decide) | exact gxw (gx_ge1 (gx_gt1 (gx_gt1 (gx_gt1 (gx_gt1 (gx_gt1 (gx_rfl _))))))) (by decide) (by decide)) (fun y hy => cu_ne _ _ (by omega)) rfl rfl (fun c h1 h2 => ⟨rfl, uL_row _ h1 _ _⟩) ?_ ?_⟩
    · rw [uL_s, cu_same, r_bal hB hi, Int64.sub_eq_add_neg]
    · unfold frR
      simp (maxDischargeDepth := 12) only [uSt_1, uSc_1, uAm_1, uAr_1, va_app, uI_app, uL_app, uI_L, uL_I, uI_R, uL_R, uI_S, uL_S, Nat.add_left_cancel_iff, Nat.add_right_cancel_iff, Nat.reduceEqDiff, if_true, if_false, and_true, true_and, and_false, false_and, and_self, reduceIte, r_plan hB hi, r_worth hB hi, r_stat hB hi, r_bal hB hi, r_gen hB hi, r_over hB hi, r_con hB hi, r_gra hB hi, r_tst hB hi, r_two hB hi, r_tpr hB hi, r_tmo hB hi, r_tvo hB hi, r_tye hB hi, r_tno hB hi, Int64.sub_eq_add_neg]
    · have hf := hI.2.1 i hi
      unfold frI at hf ⊢
      obtain ⟨f1, f3, f4, f5⟩ := hf
      simp (maxDischargeDepth := 12) only [uSt_1, uSc_1, uAm_1, uAr_1, va_app, uI_app, uL_app, uI_L, uL_I, uI_R, uL_R, uI_S, uL_S, Nat.add_left_cancel_iff, Nat.add_right_cancel_iff, Nat.reduceEqDiff, if_true, if_false, and_true, true_and, and_false, false_and, and_self, reduceIte]
      refine ⟨f1, f3, ?_, f5⟩
      exact btw_w (btw_add f4 (btw_neg (btw_amt ha) (by decide)) (by omega) (by omega)) (by omega) (by omega)
  · subst e
    simp (maxDischargeDepth := 12) only [t_X6_pay_b50, t_X6_pay_b43, t_X6_pay_b19, t_X6_pay_b0, t_X6_pay, not_true_eq_false, not_false_eq_true, forall_const, false_implies, true_implies, and_true, true_and, and_self, i10, n10, true_or, or_true, false_or, or_false, false_and, and_false, w_bnd2, w_bind, w_some, w_ite, w_thr, w_thr0, w_thr1, y_thr0, y_thr1, b1_some, b2_some, bi_0, zgd_bi, zgd0, zgd1, Classical.not_not, uSc_1, uSt_1, uAm_1, uAr_1, tS_s, tS_st, y_isCell, y_inRange, bi_if, bi_30, y_isOver, y_isFr (t := uSc t 2 0) hB hN3, inF_n (show i < 2 ^ 31 by omega), hi, y_of4 (show i < 8 by omega), y_add4 (show i < 8 by omega), ha]
    exact ⟨Rs21, (Po_ro hB hI rfl (okT_thr (okT_thr (okT_rfl t) _) _) (by first | exact gxw (gx_rfl _) (by decide) (by decide) | exact gxw (gx_ge1 (gx_rfl _)) (by decide) (by decide) | exact gxw (gx_gt1 (gx_rfl _)) (by decide) (by decide) | exact gxw (gx_ge1 (gx_gt1 (gx_rfl _))) (by decide) (by decide) | exact gxw (gx_gt1 (gx_gt1 (gx_rfl _))) (by decide) (by decide) | exact gxw (gx_ge1 (gx_gt1 (gx_gt1 (gx_rfl _)))) (by decide) (by decide) | exact gxw (gx_gt1 (gx_gt1 (gx_gt1 (gx_rfl _)))) (by decide) (by decide) | exact gxw (gx_ge1 (gx_gt1 (gx_gt1 (gx_gt1 (gx_rfl _))))) (by decide) (by decide) | exact gxw (gx_gt1 (gx_gt1 (gx_gt1 (gx_gt1 (gx_rfl _))))) (by decide) (by decide) | exact gxw (gx_ge1 (gx_gt1 (gx_gt1 (gx_gt1 (gx_gt1 (gx_rfl _)))))) (by decide) (by decide) | exact gxw (gx_gt1 (gx_gt1 (gx_gt1 (gx_gt1 (gx_gt1 (gx_rfl _)))))) (by decide) (by decide) | exact gxw (gx_ge1 (gx_gt1 (gx_gt1 (gx_gt1 (gx_gt1 (gx_gt1 (gx_rfl _))))))) (by decide) (by decide)))⟩
  · simp (maxDischargeDepth := 12) only [t_X6_pay_b50, t_X6_pay_b43, t_X6_pay_b19, t_X6_pay_b0, t_X6_pay, not_true_eq_false, not_false_eq_true, forall_const, false_implies, true_implies, and_true, true_and, and_self, i10, n10, true_or, or_true, false_or, or_false, false_and, and_false, w_bnd2, w_bind, w_some, w_ite, w_thr, w_thr0, w_thr1, y_thr0, y_thr1, b1_some, b2_some, bi_0, zgd_bi, zgd0, zgd1, Classical.not_not, uSc_1, uSt_1, uAm_1, uAr_1, tS_s, tS_st, y_isCell, y_inRange, bi_if, bi_30, y_isOver, y_isFr (t := uSc t 2 0) hB hN3, hn]
    exact ⟨Rs20, (Po_ro hB hI rfl (okT_thr (okT_thr (okT_rfl t) _) _) (by first | exact gxw (gx_rfl _) (by decide) (by decide) | exact gxw (gx_ge1 (gx_rfl _)) (by decide) (by decide) | exact gxw (gx_gt1 (gx_rfl _)) (by decide) (by decide) | exact gxw (gx_ge1 (gx_gt1 (gx_rfl _))) (by decide) (by decide) | exact gxw (gx_gt1 (gx_gt1 (gx_rfl _))) (by decide) (by decide) | exact gxw (gx_ge1 (gx_gt1 (gx_gt1 (gx_rfl _)))) (by decide) (by decide) | exact gxw (gx_gt1 (gx_gt1 (gx_gt1 (gx_rfl _)))) (by decide) (by decide) | exact gxw (gx_ge1 (gx_gt1 (gx_gt1 (gx_gt1 (gx_rfl _))))) (by decide) (by decide) | exact gxw (gx_gt1 (gx_gt1 (gx_gt1 (gx_gt1 (gx_rfl _))))) (by decide) (by decide) | exact gxw (gx_ge1 (gx_gt1 (gx_gt1 (gx_gt1 (gx_gt1 (gx_rfl _)))))) (by decide) (by decide) | exact gxw (gx_gt1 (gx_gt1 (gx_gt1 (gx_gt1 (gx_gt1 (gx_rfl _)))))) (by decide) (by decide) | exact gxw (gx_ge1 (gx_gt1 (gx_gt1 (gx_gt1 (gx_gt1 (gx_gt1 (gx_rfl _))))))) (by decide) (by decide)))⟩
end PO
