/-! questions about plans, credit, what is due, paying off -/
set_option maxRecDepth 100000
theorem l100 {x : Int64} {a : Int} (h : btw x 0 (100 * a)) (ha : 0 ≤ a) (h2 : a ≤ 90000000000000000) : btw (x / 100) 0 a := by
  obtain ⟨h1, h3⟩ := h
  have e : (x / 100).toInt = x.toInt / 100 := by
    rw [Int64.toInt_div]
    show (x.toInt.tdiv 100).bmod (2 ^ 64) = _
    rw [Int.tdiv_eq_ediv_of_nonneg h1, Int.bmod_eq_of_le (by omega) (by omega)]
  unfold btw
  rw [e]
  omega
theorem btw_mul {x y : Int64} {a b : Nat} (hx : btw x 0 a) (hy : btw y 0 b) (hab : a * b < 9223372036854775808) : btw (x * y) 0 (a * b : Nat) := by
  obtain ⟨h1, h2⟩ := hx
  obtain ⟨h3, h4⟩ := hy
  have m1 : 0 ≤ x.toInt * y.toInt := Int.mul_nonneg h1 h3
  have m2 : x.toInt * y.toInt ≤ (a : Int) * b := Int.mul_le_mul h2 h4 h3 (by omega)
  have m3 : ((a : Int) * b) = ((a * b : Nat) : Int) := by rw [Int.natCast_mul]
  rw [m3] at m2
  have e : (x * y).toInt = x.toInt * y.toInt := by
    rw [Int64.toInt_mul]
    generalize x.toInt * y.toInt = q at *
    rw [Int.bmod_eq_of_le (by omega) (by omega)]
  unfold btw
  rw [e]
  exact ⟨m1, m2⟩
theorem btw_SA {s : cT} {o nf no mo np n : Nat} {t : Nat → Int64} (hB : RB s o nf no mo t) (hI : IV t nf no np mo n) (f : Int32) {pc : Int32} (hpc : btw pc.toInt64 0 300) : ∀ j, j ≤ no → btw (SA s o j f pc) 0 (30000000 * j : Nat) := by
  intro j
  induction j with
  | zero => intro _; exact (show btw (0 : Int64) 0 0 from ⟨by decide, by decide⟩)
  | succ j ih =>
    intro hj
    have i1 := ih (by omega)
    have hno := hI.1.2.2.1
    have hs := (hI.2.2.1 j (by omega)).2
    rw [r_osa hB (by omega)] at hs
    show btw (SA s o j f pc + (if s.2.1 (o + 170 + j) 1 = f then s.2.2.1 (o + 170 + j) 2 * pc.toInt64 / 100 else 0)) 0 _
    by_cases c : s.2.1 (o + 170 + j) 1 = f
    · rw [if_pos c]
      have m := btw_mul (a := 10000000) (b := 300) hs hpc (by decide)
      have d := l100 (a := 30000000) m (by decide) (by decide)
      exact btw_w (btw_add i1 d (by omega) (by omega)) (by omega) (by omega)
    · rw [if_neg c, Int64.add_zero]
      exact btw_w i1 (by omega) (by omega)
theorem btw_big {x : Int64} {a : Nat} (h : btw x 0 a) (ha : a ≤ 4611686018427387904) : btw x (-4611686018427387904) 4611686018427387904 := btw_w h (by omega) (by omega)
theorem n300 {x : Int32} (h : (0 : Int64) ≤ x.toInt64 ∧ x.toInt64 ≤ 300) : btw x.toInt64 0 300 := btw_of (a := 0) (b := 300) h
section OQ
variable {E : zE} {N : iN} {mo n : Nat} {s : cT} {t t1 : twS} {g g1 : zH}
theorem pl_ex (hB : RB s N.1 N.2.1 N.2.2.1 mo t.1) (hI : IV t.1 N.2.1 N.2.2.1 N.2.2.2.1 mo n) {i : Nat} (hi : i < N.2.1) : ∃ pl, pl < N.2.2.2.1 ∧ s.2.1 (N.1 + 130 + i) 3 = Int32.ofNat pl := by
  have h := (hI.2.1 i hi).1
  have h4 := hI.1.2.2.2
  rw [r_plan hB hi] at h
  obtain ⟨v, hv, e⟩ := nat_of_btw (b := 3) (btw_w h (by omega) (by omega)) (by decide)
  have h2 := h.2
  rw [e, i32_64 (by omega), Int64.toInt_ofNat_of_lt (by omega)] at h2
  exact ⟨v, by omega, e⟩
theorem o_royalty (h : Pr E N mo n s t g) (hnt : ∀ i, i < N.2.2.2.1 → N.2.2.2.2 i ≤ 5) (p1 : Int32) (p2 : Int64) : Ww (c_X1_royalty E N p1 p2 s g) fun z => Ww (t_X6_royalty E p1 p2 t) fun w => Rs ec2 z.1 w.1 (tSc w.2 2) ∧ Po N mo n s t g z.2.1 w.2 z.2.2 := by
  obtain ⟨hB, hI, hR, hJ, hE, hr, hS, hO, hS3, hS8, hnn, h200⟩ := h
  obtain ⟨h60, h8, h16, h4⟩ := hI.1
  have hE1 : 1000 ≤ E.1 := by omega
  have hN1 : N.2.1 < 1000 := by omega
  have hN2 : N.2.2.1 < 1000 := by omega
  have hN3 : N.2.1 < 2 ^ 31 := by omega
  have hN4 : N.2.2.2.1 < 2 ^ 31 := by omega
  have rB : ∀ k m, k ≤ 300 → m ≤ 3000 → rm g k m := fun k m a b => rm_le hr a b
  simp (maxDischargeDepth := 12) only [c_X1_royalty_b0, c_X1_royalty, w_bnd2, w_bind, w_some, w_ite, el_l, el_r, b1_some, b2_some, bi_if, bi_30, bi_0, zgd_bi, zgd0, zgd1, Classical.not_not, x_nA1, x_nA2, x_nA4, x_sI10, x_sI20, x_sI21, x_sI40, x_sI41, x_sI42, x_sI43, gb1, gb2, gb4, x_isP, x_isAm, x_isAc, x_isOp, x_isOT, rm_gt, rm_ge, rB, Nat.reduceAdd, Nat.reduceLeDiff, Nat.reduceLT, not_true_eq_false, not_false_eq_true, forall_const, false_implies, true_implies, and_true, true_and, and_self, i10, n10, true_or, or_true, false_or, or_false, false_and, and_false, w_rI hE1, w_rA hE1, w_fr hE1 hN1, w_ou hE1 hN2, x_isFr hN3, x_isPl hN4]
  refine ⟨fun ha => ⟨fun hb => ?_, fun hb => ?_⟩, fun ha => ?_⟩
  · obtain ⟨e, hi⟩ := inF_nat ha
    generalize p1.toNatClampNeg = i at e hi
    subst e
    have hx : btw p2 (-4611686018427387904) 4611686018427387904 := btw_w (btw_of (a := 0) (b := 1000000000) hb) (by decide) (by decide)
    simp (maxDischargeDepth := 12) only [cGet_of hi (show N.2.2.2.1 < 2 ^ 31 by omega), x_RY hE1 (hnt i hi), w_bnd2, w_bind, w_some, w_ite, el_l, el_r, b1_some, b2_some, bi_if, bi_30, bi_0, zgd_bi, zgd0, zgd1, Classical.not_not, x_nA1, x_nA2, x_nA4, x_sI10, x_sI20, x_sI21, x_sI40, x_sI41, x_sI42, x_sI43, gb1, gb2, gb4, x_isP, x_isAm, x_isAc, x_isOp, x_isOT, rm_gt, rm_ge, rB, Nat.reduceAdd, Nat.reduceLeDiff, Nat.reduceLT, not_true_eq_false, not_false_eq_true, forall_const, false_implies, true_implies, and_true, true_and, and_self, i10, n10, true_or, or_true, false_or, or_false, false_and, and_false, w_rI hE1, w_rA hE1, w_fr hE1 hN1, w_ou hE1 hN2, x_isFr hN3, x_isPl hN4, t_X6_royalty_b60, t_X6_royalty_b50, t_X6_royalty_b43, t_X6_royalty_b19, t_X6_royalty_b0, t_X6_royalty, not_true_eq_false, not_false_eq_true, forall_const, false_implies, true_implies, and_true, true_and, and_self, i10, n10, true_or, or_true, false_or, or_false, false_and, and_false, w_bnd2, w_bind, w_some, w_ite, w_thr, w_thr0, w_thr1, y_thr0, y_thr1, b1_some, b2_some, bi_0, zgd_bi, zgd0, zgd1, Classical.not_not, uSc_1, uSt_1, uAm_1, uAr_1, tS_s, tS_st, y_isCell, y_inRange, bi_if, bi_30, y_isOver, y_isPl (t := uSc t 2 0) hR hN4, ha, hb, y_RY (t := uSc t 2 0) hR hJ hE1 h4 hi hx]
    exact ⟨Rs_l rfl, (Po_ro hB hI rfl (okT_thr (okT_rfl t) _) (by first | exact gxw (gx_rfl _) (by decide) (by decide) | exact gxw (gx_ge1 (gx_rfl _)) (by decide) (by decide) | exact gxw (gx_gt1 (gx_rfl _)) (by decide) (by decide) | exact gxw (gx_ge1 (gx_gt1 (gx_rfl _))) (by decide) (by decide) | exact gxw (gx_gt1 (gx_gt1 (gx_rfl _))) (by decide) (by decide) | exact gxw (gx_ge1 (gx_gt1 (gx_gt1 (gx_rfl _)))) (by decide) (by decide) | exact gxw (gx_gt1 (gx_gt1 (gx_gt1 (gx_rfl _)))) (by decide) (by decide) | exact gxw (gx_ge1 (gx_gt1 (gx_gt1 (gx_gt1 (gx_rfl _))))) (by decide) (by decide) | exact gxw (gx_gt1 (gx_gt1 (gx_gt1 (gx_gt1 (gx_rfl _))))) (by decide) (by decide) | exact gxw (gx_ge1 (gx_gt1 (gx_gt1 (gx_gt1 (gx_gt1 (gx_rfl _)))))) (by decide) (by decide) | exact gxw (gx_gt1 (gx_gt1 (gx_gt1 (gx_gt1 (gx_gt1 (gx_rfl _)))))) (by decide) (by decide) | exact gxw (gx_ge1 (gx_gt1 (gx_gt1 (gx_gt1 (gx_gt1 (gx_gt1 (gx_rfl _))))))) (by decide) (by decide)))⟩
  · simp (maxDischargeDepth := 12) only [t_X6_royalty_b60, t_X6_royalty_b50, t_X6_royalty_b43, t_X6_royalty_b19, t_X6_royalty_b0, t_X6_royalty, not_true_eq_false, not_false_eq_true, forall_const, false_implies, true_implies, and_true, true_and, and_self, i10, n10, true_or, or_true, false_or, or_false, false_and, and_false, w_bnd2, w_bind, w_some, w_ite, w_thr, w_thr0, w_thr1, y_thr0, y_thr1, b1_some, b2_some, bi_0, zgd_bi, zgd0, zgd1, Classical.not_not, uSc_1, uSt_1, uAm_1, uAr_1, tS_s, tS_st, y_isCell, y_inRange, bi_if, bi_30, y_isOver, y_isPl (t := uSc t 2 0) hR hN4, ha, hb]
    exact ⟨Rs21, (Po_ro hB hI rfl (okT_thr (okT_thr (okT_rfl t) _) _) (by first | exact gxw (gx_rfl _) (by decide) (by decide) | exact gxw (gx_ge1 (gx_rfl _)) (by decide) (by decide) | exact gxw (gx_gt1 (gx_rfl _)) (by decide) (by decide) | exact gxw (gx_ge1 (gx_gt1 (gx_rfl _))) (by decide) (by decide) | exact gxw (gx_gt1 (gx_gt1 (gx_rfl _))) (by decide) (by decide) | exact gxw (gx_ge1 (gx_gt1 (gx_gt1 (gx_rfl _)))) (by decide) (by decide) | exact gxw (gx_gt1 (gx_gt1 (gx_gt1 (gx_rfl _)))) (by decide) (by decide) | exact gxw (gx_ge1 (gx_gt1 (gx_gt1 (gx_gt1 (gx_rfl _))))) (by decide) (by decide) | exact gxw (gx_gt1 (gx_gt1 (gx_gt1 (gx_gt1 (gx_rfl _))))) (by decide) (by decide) | exact gxw (gx_ge1 (gx_gt1 (gx_gt1 (gx_gt1 (gx_gt1 (gx_rfl _)))))) (by decide) (by decide) | exact gxw (gx_gt1 (gx_gt1 (gx_gt1 (gx_gt1 (gx_gt1 (gx_rfl _)))))) (by decide) (by decide) | exact gxw (gx_ge1 (gx_gt1 (gx_gt1 (gx_gt1 (gx_gt1 (gx_gt1 (gx_rfl _))))))) (by decide) (by decide)))⟩
  · simp (maxDischargeDepth := 12) only [t_X6_royalty_b60, t_X6_royalty_b50, t_X6_royalty_b43, t_X6_royalty_b19, t_X6_royalty_b0, t_X6_royalty, not_true_eq_false, not_false_eq_true, forall_const, false_implies, true_implies, and_true, true_and, and_self, i10, n10, true_or, or_true, false_or, or_false, false_and, and_false, w_bnd2, w_bind, w_some, w_ite, w_thr, w_thr0, w_thr1, y_thr0, y_thr1, b1_some, b2_some, bi_0, zgd_bi, zgd0, zgd1, Classical.not_not, uSc_1, uSt_1, uAm_1, uAr_1, tS_s, tS_st, y_isCell, y_inRange, bi_if, bi_30, y_isOver, y_isPl (t := uSc t 2 0) hR hN4, ha]
    exact ⟨Rs20, (Po_ro hB hI rfl (okT_thr (okT_thr (okT_rfl t) _) _) (by first | exact gxw (gx_rfl _) (by decide) (by decide) | exact gxw (gx_ge1 (gx_rfl _)) (by decide) (by decide) | exact gxw (gx_gt1 (gx_rfl _)) (by decide) (by decide) | exact gxw (gx_ge1 (gx_gt1 (gx_rfl _))) (by decide) (by decide) | exact gxw (gx_gt1 (gx_gt1 (gx_rfl _))) (by decide) (by decide) | exact gxw (gx_ge1 (gx_gt1 (gx_gt1 (gx_rfl _)))) (by decide) (by decide) | exact gxw (gx_gt1 (gx_gt1 (gx_gt1 (gx_rfl _)))) (by decide) (by decide) | exact gxw (gx_ge1 (gx_gt1 (gx_gt1 (gx_gt1 (gx_rfl _))))) (by decide) (by decide) | exact gxw (gx_gt1 (gx_gt1 (gx_gt1 (gx_gt1 (gx_rfl _))))) (by decide) (by decide) | exact gxw (gx_ge1 (gx_gt1 (gx_gt1 (gx_gt1 (gx_gt1 (gx_rfl _)))))) (by decide) (by decide) | exact gxw (gx_gt1 (gx_gt1 (gx_gt1 (gx_gt1 (gx_gt1 (gx_rfl _)))))) (by decide) (by decide) | exact gxw (gx_ge1 (gx_gt1 (gx_gt1 (gx_gt1 (gx_gt1 (gx_gt1 (gx_rfl _))))))) (by decide) (by decide)))⟩
theorem o_cheapestPlan (h : Pr E N mo n s t g) (hnt : ∀ i, i < N.2.2.2.1 → N.2.2.2.2 i ≤ 5) (p1 : Int32) : Ww (c_X1_cheapestPlan E N p1 s g) fun z => Ww (t_X6_cheapestPlan E p1 t) fun w => Rs ec1 z.1 w.1 (tSc w.2 2) ∧ Po N mo n s t g z.2.1 w.2 z.2.2 := by
  obtain ⟨hB, hI, hR, hJ, hE, hr, hS, hO, hS3, hS8, hnn, h200⟩ := h
  obtain ⟨h60, h8, h16, h4⟩ := hI.1
  have hE1 : 1000 ≤ E.1 := by omega
  have hN1 : N.2.1 < 1000 := by omega
  have hN2 : N.2.2.1 < 1000 := by omega
  have hN3 : N.2.1 < 2 ^ 31 := by omega
  have hN4 : N.2.2.2.1 < 2 ^ 31 := by omega
  have rB : ∀ k m, k ≤ 300 → m ≤ 3000 → rm g k m := fun k m a b => rm_le hr a b
  simp (maxDischargeDepth := 12) only [c_X1_cheapestPlan_b0, c_X1_cheapestPlan, w_bnd2, w_bind, w_some, w_ite, el_l, el_r, b1_some, b2_some, bi_if, bi_30, bi_0, zgd_bi, zgd0, zgd1, Classical.not_not, x_nA1, x_nA2, x_nA4, x_sI10, x_sI20, x_sI21, x_sI40, x_sI41, x_sI42, x_sI43, gb1, gb2, gb4, x_isP, x_isAm, x_isAc, x_isOp, x_isOT, rm_gt, rm_ge, rB, Nat.reduceAdd, Nat.reduceLeDiff, Nat.reduceLT, not_true_eq_false, not_false_eq_true, forall_const, false_implies, true_implies, and_true, true_and, and_self, i10, n10, true_or, or_true, false_or, or_false, false_and, and_false, w_rI hE1, w_rA hE1, w_fr hE1 hN1, w_ou hE1 hN2, x_isFr hN3, x_isPl hN4, x_SA hE1 h16]
  refine ⟨fun ha => ?_, fun ha => ?_⟩
  · obtain ⟨e, hi⟩ := inF_nat ha
    obtain ⟨pl, hl, _⟩ := pl_ex hB hI hi
    have hx := btw_big (btw_SA hB hI p1 (pc := 100) ⟨by decide, by decide⟩ N.2.2.1 (Nat.le_refl _)) (by omega)
    simp (maxDischargeDepth := 12) only [x_chp hE1 h4 (show 1 ≤ N.2.2.2.1 by omega) hnt, w_bnd2, w_bind, w_some, w_ite, el_l, el_r, b1_some, b2_some, bi_if, bi_30, bi_0, zgd_bi, zgd0, zgd1, Classical.not_not, x_nA1, x_nA2, x_nA4, x_sI10, x_sI20, x_sI21, x_sI40, x_sI41, x_sI42, x_sI43, gb1, gb2, gb4, x_isP, x_isAm, x_isAc, x_isOp, x_isOT, rm_gt, rm_ge, rB, Nat.reduceAdd, Nat.reduceLeDiff, Nat.reduceLT, not_true_eq_false, not_false_eq_true, forall_const, false_implies, true_implies, and_true, true_and, and_self, i10, n10, true_or, or_true, false_or, or_false, false_and, and_false, w_rI hE1, w_rA hE1, w_fr hE1 hN1, w_ou hE1 hN2, x_isFr hN3, x_isPl hN4, t_X6_cheapestPlan_b77, t_X6_cheapestPlan_b19, t_X6_cheapestPlan_b0, t_X6_cheapestPlan, not_true_eq_false, not_false_eq_true, forall_const, false_implies, true_implies, and_true, true_and, and_self, i10, n10, true_or, or_true, false_or, or_false, false_and, and_false, w_bnd2, w_bind, w_some, w_ite, w_thr, w_thr0, w_thr1, y_thr0, y_thr1, b1_some, b2_some, bi_0, zgd_bi, zgd0, zgd1, Classical.not_not, uSc_1, uSt_1, uAm_1, uAr_1, tS_s, tS_st, y_isCell, y_inRange, bi_if, bi_30, y_isOver, y_isFr (t := uSc t 2 0) hB hN3, ha, y_SA (t := uSc t 2 0) hB hE1 h16, y_chp (t := uSc t 2 0) hR hJ hE1 h4 (show 1 ≤ N.2.2.2.1 by omega) hx]
    exact ⟨Rs_l rfl, (Po_ro hB hI rfl (okT_thr (okT_rfl t) _) (by first | exact gxw (gx_rfl _) (by decide) (by decide) | exact gxw (gx_ge1 (gx_rfl _)) (by decide) (by decide) | exact gxw (gx_gt1 (gx_rfl _)) (by decide) (by decide) | exact gxw (gx_ge1 (gx_gt1 (gx_rfl _))) (by decide) (by decide) | exact gxw (gx_gt1 (gx_gt1 (gx_rfl _))) (by decide) (by decide) | exact gxw (gx_ge1 (gx_gt1 (gx_gt1 (gx_rfl _)))) (by decide) (by decide) | exact gxw (gx_gt1 (gx_gt1 (gx_gt1 (gx_rfl _)))) (by decide) (by decide) | exact gxw (gx_ge1 (gx_gt1 (gx_gt1 (gx_gt1 (gx_rfl _))))) (by decide) (by decide) | exact gxw (gx_gt1 (gx_gt1 (gx_gt1 (gx_gt1 (gx_rfl _))))) (by decide) (by decide) | exact gxw (gx_ge1 (gx_gt1 (gx_gt1 (gx_gt1 (gx_gt1 (gx_rfl _)))))) (by decide) (by decide) | exact gxw (gx_gt1 (gx_gt1 (gx_gt1 (gx_gt1 (gx_gt1 (gx_rfl _)))))) (by decide) (by decide) | exact gxw (gx_ge1 (gx_gt1 (gx_gt1 (gx_gt1 (gx_gt1 (gx_gt1 (gx_rfl _))))))) (by decide) (by decide)))⟩
  · simp (maxDischargeDepth := 12) only [t_X6_cheapestPlan_b77, t_X6_cheapestPlan_b19, t_X6_cheapestPlan_b0, t_X6_cheapestPlan, not_true_eq_false, not_false_eq_true, forall_const, false_implies, true_implies, and_true, true_and, and_self, i10, n10, true_or, or_true, false_or, or_false, false_and, and_false, w_bnd2, w_bind, w_some, w_ite, w_thr, w_thr0, w_thr1, y_thr0, y_thr1, b1_some, b2_some, bi_0, zgd_bi, zgd0, zgd1, Classical.not_not, uSc_1, uSt_1, uAm_1, uAr_1, tS_s, tS_st, y_isCell, y_inRange, bi_if, bi_30, y_isOver, y_isFr (t := uSc t 2 0) hB hN3, ha]
    exact ⟨Rs20, (Po_ro hB hI rfl (okT_thr (okT_thr (okT_rfl t) _) _) (by first | exact gxw (gx_rfl _) (by decide) (by decide) | exact gxw (gx_ge1 (gx_rfl _)) (by decide) (by decide) | exact gxw (gx_gt1 (gx_rfl _)) (by decide) (by decide) | exact gxw (gx_ge1 (gx_gt1 (gx_rfl _))) (by decide) (by decide) | exact gxw (gx_gt1 (gx_gt1 (gx_rfl _))) (by decide) (by decide) | exact gxw (gx_ge1 (gx_gt1 (gx_gt1 (gx_rfl _)))) (by decide) (by decide) | exact gxw (gx_gt1 (gx_gt1 (gx_gt1 (gx_rfl _)))) (by decide) (by decide) | exact gxw (gx_ge1 (gx_gt1 (gx_gt1 (gx_gt1 (gx_rfl _))))) (by decide) (by decide) | exact gxw (gx_gt1 (gx_gt1 (gx_gt1 (gx_gt1 (gx_rfl _))))) (by decide) (by decide) | exact gxw (gx_ge1 (gx_gt1 (gx_gt1 (gx_gt1 (gx_gt1 (gx_rfl _)))))) (by decide) (by decide) | exact gxw (gx_gt1 (gx_gt1 (gx_gt1 (gx_gt1 (gx_gt1 (gx_rfl _)))))) (by decide) (by decide) | exact gxw (gx_ge1 (gx_gt1 (gx_gt1 (gx_gt1 (gx_gt1 (gx_gt1 (gx_rfl _))))))) (by decide) (by decide)))⟩
theorem o_creditDue (h : Pr E N mo n s t g) (p1 p2 : Int32) : Ww (c_X1_creditDue E N p1 p2 s g) fun z => Ww (t_X6_creditDue E p1 p2 t) fun w => Rs ec1 z.1 w.1 (tSc w.2 2) ∧ Po N mo n s t g z.2.1 w.2 z.2.2 := by
  obtain ⟨hB, hI, hR, hJ, hE, hr, hS, hO, hS3, hS8, hnn, h200⟩ := h
  obtain ⟨h60, h8, h16, h4⟩ := hI.1
  have hE1 : 1000 ≤ E.1 := by omega
  have hN1 : N.2.1 < 1000 := by omega
  have hN2 : N.2.2.1 < 1000 := by omega
  have hN3 : N.2.1 < 2 ^ 31 := by omega
  have hN4 : N.2.2.2.1 < 2 ^ 31 := by omega
  have rB : ∀ k m, k ≤ 300 → m ≤ 3000 → rm g k m := fun k m a b => rm_le hr a b
  simp (maxDischargeDepth := 12) only [c_X1_creditDue_b0, c_X1_creditDue, w_bnd2, w_bind, w_some, w_ite, el_l, el_r, b1_some, b2_some, bi_if, bi_30, bi_0, zgd_bi, zgd0, zgd1, Classical.not_not, x_nA1, x_nA2, x_nA4, x_sI10, x_sI20, x_sI21, x_sI40, x_sI41, x_sI42, x_sI43, gb1, gb2, gb4, x_isP, x_isAm, x_isAc, x_isOp, x_isOT, rm_gt, rm_ge, rB, Nat.reduceAdd, Nat.reduceLeDiff, Nat.reduceLT, not_true_eq_false, not_false_eq_true, forall_const, false_implies, true_implies, and_true, true_and, and_self, i10, n10, true_or, or_true, false_or, or_false, false_and, and_false, w_rI hE1, w_rA hE1, w_fr hE1 hN1, w_ou hE1 hN2, x_isFr hN3, x_isPl hN4]
  refine ⟨fun ha => ?_, fun ha => ?_⟩
  · obtain ⟨h1, h2⟩ := ha
    obtain ⟨e1, hi⟩ := inF_nat h1
    obtain ⟨e2, hj⟩ := inF_nat h2
    generalize p1.toNatClampNeg = i at e1 hi
    generalize p2.toNatClampNeg = j at e2 hj
    subst e1 e2
    rw [x_CR (by omega) (by omega), w_some]
    by_cases c : i = j
    · subst c
      simp (maxDischargeDepth := 12) only [t_X6_creditDue_b49, t_X6_creditDue_b39, t_X6_creditDue_b27, t_X6_creditDue_b22, t_X6_creditDue_b0, t_X6_creditDue, not_true_eq_false, not_false_eq_true, forall_const, false_implies, true_implies, and_true, true_and, and_self, i10, n10, true_or, or_true, false_or, or_false, false_and, and_false, w_bnd2, w_bind, w_some, w_ite, w_thr, w_thr0, w_thr1, y_thr0, y_thr1, b1_some, b2_some, bi_0, zgd_bi, zgd0, zgd1, Classical.not_not, uSc_1, uSt_1, uAm_1, uAr_1, tS_s, tS_st, y_isCell, y_inRange, bi_if, bi_30, y_isOver, y_isFr (t := uSc t 2 0) hB hN3, h1]
      refine ⟨Rs_l ?_, (Po_ro hB hI rfl (okT_thr (okT_rfl t) _) (by first | exact gxw (gx_rfl _) (by decide) (by decide) | exact gxw (gx_ge1 (gx_rfl _)) (by decide) (by decide) | exact gxw (gx_gt1 (gx_rfl _)) (by decide) (by decide) | exact gxw (gx_ge1 (gx_gt1 (gx_rfl _))) (by decide) (by decide) | exact gxw (gx_gt1 (gx_gt1 (gx_rfl _))) (by decide) (by decide) | exact gxw (gx_ge1 (gx_gt1 (gx_gt1 (gx_rfl _)))) (by decide) (by decide) | exact gxw (gx_gt1 (gx_gt1 (gx_gt1 (gx_rfl _)))) (by decide) (by decide) | exact gxw (gx_ge1 (gx_gt1 (gx_gt1 (gx_gt1 (gx_rfl _))))) (by decide) (by decide) | exact gxw (gx_gt1 (gx_gt1 (gx_gt1 (gx_gt1 (gx_rfl _))))) (by decide) (by decide) | exact gxw (gx_ge1 (gx_gt1 (gx_gt1 (gx_gt1 (gx_gt1 (gx_rfl _)))))) (by decide) (by decide) | exact gxw (gx_gt1 (gx_gt1 (gx_gt1 (gx_gt1 (gx_gt1 (gx_rfl _)))))) (by decide) (by decide) | exact gxw (gx_ge1 (gx_gt1 (gx_gt1 (gx_gt1 (gx_gt1 (gx_gt1 (gx_rfl _))))))) (by decide) (by decide)))⟩
      have hd := hI.2.2.2.2.2 i (by omega) i (by omega) (Or.inr rfl)
      rw [r_del hB (by omega) (by omega)] at hd
      have hc := hJ.2.1.1
      rw [r_cap hR] at hc
      unfold CR
      rw [hd, Int64.zero_mul]
      by_cases q : (0 + 5000) / 10000 < s.2.2.1 2 5
      · rw [if_pos q]; decide
      · rw [if_neg q]
        have q2 : s.2.2.1 2 5 ≤ 0 := Int64.not_lt.mp q
        rw [Int64.le_iff_toInt_le] at q2
        exact Int64.toInt_inj.mp (by show _ = (0 : Int); have : (0 : Int64).toInt = 0 := by decide
                                     rw [this] at q2; omega)
    · have ne : ¬ Int32.ofNat i = Int32.ofNat j := fun e => c ((i32_eq (by omega) (by omega)).mp e)
      simp (maxDischargeDepth := 12) only [t_X6_creditDue_b49, t_X6_creditDue_b39, t_X6_creditDue_b27, t_X6_creditDue_b22, t_X6_creditDue_b0, t_X6_creditDue, not_true_eq_false, not_false_eq_true, forall_const, false_implies, true_implies, and_true, true_and, and_self, i10, n10, true_or, or_true, false_or, or_false, false_and, and_false, w_bnd2, w_bind, w_some, w_ite, w_thr, w_thr0, w_thr1, y_thr0, y_thr1, b1_some, b2_some, bi_0, zgd_bi, zgd0, zgd1, Classical.not_not, uSc_1, uSt_1, uAm_1, uAr_1, tS_s, tS_st, y_isCell, y_inRange, bi_if, bi_30, y_isOver, y_isFr (t := uSc t 2 0) hB hN3, h1, h2, ne, y_CR (t := uSc t 2 0) hB hR (show i < 8 by omega) (show j < 8 by omega)]
      exact ⟨Rs_l rfl, (Po_ro hB hI rfl (okT_thr (okT_rfl t) _) (by first | exact gxw (gx_rfl _) (by decide) (by decide) | exact gxw (gx_ge1 (gx_rfl _)) (by decide) (by decide) | exact gxw (gx_gt1 (gx_rfl _)) (by decide) (by decide) | exact gxw (gx_ge1 (gx_gt1 (gx_rfl _))) (by decide) (by decide) | exact gxw (gx_gt1 (gx_gt1 (gx_rfl _))) (by decide) (by decide) | exact gxw (gx_ge1 (gx_gt1 (gx_gt1 (gx_rfl _)))) (by decide) (by decide) | exact gxw (gx_gt1 (gx_gt1 (gx_gt1 (gx_rfl _)))) (by decide) (by decide) | exact gxw (gx_ge1 (gx_gt1 (gx_gt1 (gx_gt1 (gx_rfl _))))) (by decide) (by decide) | exact gxw (gx_gt1 (gx_gt1 (gx_gt1 (gx_gt1 (gx_rfl _))))) (by decide) (by decide) | exact gxw (gx_ge1 (gx_gt1 (gx_gt1 (gx_gt1 (gx_gt1 (gx_rfl _)))))) (by decide) (by decide) | exact gxw (gx_gt1 (gx_gt1 (gx_gt1 (gx_gt1 (gx_gt1 (gx_rfl _)))))) (by decide) (by decide) | exact gxw (gx_ge1 (gx_gt1 (gx_gt1 (gx_gt1 (gx_gt1 (gx_gt1 (gx_rfl _))))))) (by decide) (by decide)))⟩
  · by_cases h1 : inF p1 N.2.1
    · by_cases h2 : inF p2 N.2.1
      · exact absurd ⟨h1, h2⟩ ha
      · simp (maxDischargeDepth := 12) only [t_X6_creditDue_b49, t_X6_creditDue_b39, t_X6_creditDue_b27, t_X6_creditDue_b22, t_X6_creditDue_b0, t_X6_creditDue, not_true_eq_false, not_false_eq_true, forall_const, false_implies, true_implies, and_true, true_and, and_self, i10, n10, true_or, or_true, false_or, or_false, false_and, and_false, w_bnd2, w_bind, w_some, w_ite, w_thr, w_thr0, w_thr1, y_thr0, y_thr1, b1_some, b2_some, bi_0, zgd_bi, zgd0, zgd1, Classical.not_not, uSc_1, uSt_1, uAm_1, uAr_1, tS_s, tS_st, y_isCell, y_inRange, bi_if, bi_30, y_isOver, y_isFr (t := uSc t 2 0) hB hN3, h1, h2]
        exact ⟨Rs20, (Po_ro hB hI rfl (okT_thr (okT_thr (okT_rfl t) _) _) (by first | exact gxw (gx_rfl _) (by decide) (by decide) | exact gxw (gx_ge1 (gx_rfl _)) (by decide) (by decide) | exact gxw (gx_gt1 (gx_rfl _)) (by decide) (by decide) | exact gxw (gx_ge1 (gx_gt1 (gx_rfl _))) (by decide) (by decide) | exact gxw (gx_gt1 (gx_gt1 (gx_rfl _))) (by decide) (by decide) | exact gxw (gx_ge1 (gx_gt1 (gx_gt1 (gx_rfl _)))) (by decide) (by decide) | exact gxw (gx_gt1 (gx_gt1 (gx_gt1 (gx_rfl _)))) (by decide) (by decide) | exact gxw (gx_ge1 (gx_gt1 (gx_gt1 (gx_gt1 (gx_rfl _))))) (by decide) (by decide) | exact gxw (gx_gt1 (gx_gt1 (gx_gt1 (gx_gt1 (gx_rfl _))))) (by decide) (by decide) | exact gxw (gx_ge1 (gx_gt1 (gx_gt1 (gx_gt1 (gx_gt1 (gx_rfl _)))))) (by decide) (by decide) | exact gxw (gx_gt1 (gx_gt1 (gx_gt1 (gx_gt1 (gx_gt1 (gx_rfl _)))))) (by decide) (by decide) | exact gxw (gx_ge1 (gx_gt1 (gx_gt1 (gx_gt1 (gx_gt1 (gx_gt1 (gx_rfl _))))))) (by decide) (by decide)))⟩
    · simp (maxDischargeDepth := 12) only [t_X6_creditDue_b49, t_X6_creditDue_b39, t_X6_creditDue_b27, t_X6_creditDue_b22, t_X6_creditDue_b0, t_X6_creditDue, not_true_eq_false, not_false_eq_true, forall_const, false_implies, true_implies, and_true, true_and, and_self, i10, n10, true_or, or_true, false_or, or_false, false_and, and_false, w_bnd2, w_bind, w_some, w_ite, w_thr, w_thr0, w_thr1, y_thr0, y_thr1, b1_some, b2_some, bi_0, zgd_bi, zgd0, zgd1, Classical.not_not, uSc_1, uSt_1, uAm_1, uAr_1, tS_s, tS_st, y_isCell, y_inRange, bi_if, bi_30, y_isOver, y_isFr (t := uSc t 2 0) hB hN3, h1]
      exact ⟨Rs20, (Po_ro hB hI rfl (okT_thr (okT_thr (okT_rfl t) _) _) (by first | exact gxw (gx_rfl _) (by decide) (by decide) | exact gxw (gx_ge1 (gx_rfl _)) (by decide) (by decide) | exact gxw (gx_gt1 (gx_rfl _)) (by decide) (by decide) | exact gxw (gx_ge1 (gx_gt1 (gx_rfl _))) (by decide) (by decide) | exact gxw (gx_gt1 (gx_gt1 (gx_rfl _))) (by decide) (by decide) | exact gxw (gx_ge1 (gx_gt1 (gx_gt1 (gx_rfl _)))) (by decide) (by decide) | exact gxw (gx_gt1 (gx_gt1 (gx_gt1 (gx_rfl _)))) (by decide) (by decide) | exact gxw (gx_ge1 (gx_gt1 (gx_gt1 (gx_gt1 (gx_rfl _))))) (by decide) (by decide) | exact gxw (gx_gt1 (gx_gt1 (gx_gt1 (gx_gt1 (gx_rfl _))))) (by decide) (by decide) | exact gxw (gx_ge1 (gx_gt1 (gx_gt1 (gx_gt1 (gx_gt1 (gx_rfl _)))))) (by decide) (by decide) | exact gxw (gx_gt1 (gx_gt1 (gx_gt1 (gx_gt1 (gx_gt1 (gx_rfl _)))))) (by decide) (by decide) | exact gxw (gx_ge1 (gx_gt1 (gx_gt1 (gx_gt1 (gx_gt1 (gx_gt1 (gx_rfl _))))))) (by decide) (by decide)))⟩
theorem o_predictDue (h : Pr E N mo n s t g) (hnt : ∀ i, i < N.2.2.2.1 → N.2.2.2.2 i ≤ 5) (p1 p2 : Int32) : Ww (c_X1_predictDue E N p1 p2 s g) fun z => Ww (t_X6_predictDue E p1 p2 t) fun w => Rs ec2 z.1 w.1 (tSc w.2 2) ∧ Po N mo n s t g z.2.1 w.2 z.2.2 := by
  obtain ⟨hB, hI, hR, hJ, hE, hr, hS, hO, hS3, hS8, hnn, h200⟩ := h
  obtain ⟨h60, h8, h16, h4⟩ := hI.1
  have hE1 : 1000 ≤ E.1 := by omega
  have hN1 : N.2.1 < 1000 := by omega
  have hN2 : N.2.2.1 < 1000 := by omega
  have hN3 : N.2.1 < 2 ^ 31 := by omega
  have hN4 : N.2.2.2.1 < 2 ^ 31 := by omega
  have rB : ∀ k m, k ≤ 300 → m ≤ 3000 → rm g k m := fun k m a b => rm_le hr a b
  simp (maxDischargeDepth := 12) only [c_X1_predictDue_b0, c_X1_predictDue, w_bnd2, w_bind, w_some, w_ite, el_l, el_r, b1_some, b2_some, bi_if, bi_30, bi_0, zgd_bi, zgd0, zgd1, Classical.not_not, x_nA1, x_nA2, x_nA4, x_sI10, x_sI20, x_sI21, x_sI40, x_sI41, x_sI42, x_sI43, gb1, gb2, gb4, x_isP, x_isAm, x_isAc, x_isOp, x_isOT, rm_gt, rm_ge, rB, Nat.reduceAdd, Nat.reduceLeDiff, Nat.reduceLT, not_true_eq_false, not_false_eq_true, forall_const, false_implies, true_implies, and_true, true_and, and_self, i10, n10, true_or, or_true, false_or, or_false, false_and, and_false, w_rI hE1, w_rA hE1, w_fr hE1 hN1, w_ou hE1 hN2, x_isFr hN3, x_isPl hN4]
  refine ⟨fun ha => ⟨fun hb => ?_, fun hb => ?_⟩, fun ha => ?_⟩
  · obtain ⟨e, hi⟩ := inF_nat ha
    generalize p1.toNatClampNeg = i at e hi
    subst e
    obtain ⟨pl, hl, hpl⟩ := pl_ex hB hI hi
    have hx := btw_big (btw_SA hB hI (Int32.ofNat i) (n300 hb) N.2.2.1 (Nat.le_refl _)) (by omega)
    refine w_mono (x_ST hE1 h8 h4 h16 (rm_gt (rm_gt (rB _ _ (by decide) (by decide)))) hi hpl hl (hnt pl hl) p2) fun z hz => ?_
    obtain ⟨f, ez, hf⟩ := hz
    subst ez
    simp (maxDischargeDepth := 12) only [gm_d5, w_bnd2, w_bind, w_some, w_ite, el_l, el_r, b1_some, b2_some, bi_if, bi_30, bi_0, zgd_bi, zgd0, zgd1, Classical.not_not, x_nA1, x_nA2, x_nA4, x_sI10, x_sI20, x_sI21, x_sI40, x_sI41, x_sI42, x_sI43, gb1, gb2, gb4, x_isP, x_isAm, x_isAc, x_isOp, x_isOT, rm_gt, rm_ge, rB, Nat.reduceAdd, Nat.reduceLeDiff, Nat.reduceLT, not_true_eq_false, not_false_eq_true, forall_const, false_implies, true_implies, and_true, true_and, and_self, i10, n10, true_or, or_true, false_or, or_false, false_and, and_false, w_rI hE1, w_rA hE1, w_fr hE1 hN1, w_ou hE1 hN2, x_isFr hN3, x_isPl hN4, t_X6_predictDue_b51, t_X6_predictDue_b44, t_X6_predictDue_b19, t_X6_predictDue_b0, t_X6_predictDue, not_true_eq_false, not_false_eq_true, forall_const, false_implies, true_implies, and_true, true_and, and_self, i10, n10, true_or, or_true, false_or, or_false, false_and, and_false, w_bnd2, w_bind, w_some, w_ite, w_thr, w_thr0, w_thr1, y_thr0, y_thr1, b1_some, b2_some, bi_0, zgd_bi, zgd0, zgd1, Classical.not_not, uSc_1, uSt_1, uAm_1, uAr_1, tS_s, tS_st, y_isCell, y_inRange, bi_if, bi_30, y_isOver, y_isFr (t := uSc t 2 0) hB hN3, ha, hb, y_SA (t := uSc t 2 0) hB hE1 h16]
    refine w_mono (y_ST (t := uSc t 2 0) hB hR hJ hE1 h8 h4 hi hpl hl hx) fun w hw => ?_
    obtain ⟨f2, ew, hf2⟩ := hw
    subst ew
    simp (maxDischargeDepth := 12) only [ya_d5, not_true_eq_false, not_false_eq_true, forall_const, false_implies, true_implies, and_true, true_and, and_self, i10, n10, true_or, or_true, false_or, or_false, false_and, and_false, w_bnd2, w_bind, w_some, w_ite, w_thr, w_thr0, w_thr1, y_thr0, y_thr1, b1_some, b2_some, bi_0, zgd_bi, zgd0, zgd1, Classical.not_not, uSc_1, uSt_1, uAm_1, uAr_1, tS_s, tS_st, y_isCell, y_inRange, bi_if, bi_30, y_isOver]
    refine ⟨Rs_l ((hf 5 (by decide)).trans (hf2 5 (by decide)).symm), Po_ro hB hI rfl (okT_am (okT_thr (okT_rfl t) _) _) ?_⟩
    exact gxw (gx_gm1 (gx_gt1 (gx_gt1 (gx_rfl _)))) (by decide) (by decide)
  · simp (maxDischargeDepth := 12) only [t_X6_predictDue_b51, t_X6_predictDue_b44, t_X6_predictDue_b19, t_X6_predictDue_b0, t_X6_predictDue, not_true_eq_false, not_false_eq_true, forall_const, false_implies, true_implies, and_true, true_and, and_self, i10, n10, true_or, or_true, false_or, or_false, false_and, and_false, w_bnd2, w_bind, w_some, w_ite, w_thr, w_thr0, w_thr1, y_thr0, y_thr1, b1_some, b2_some, bi_0, zgd_bi, zgd0, zgd1, Classical.not_not, uSc_1, uSt_1, uAm_1, uAr_1, tS_s, tS_st, y_isCell, y_inRange, bi_if, bi_30, y_isOver, y_isFr (t := uSc t 2 0) hB hN3, ha, hb]
    exact ⟨Rs21, (Po_ro hB hI rfl (okT_thr (okT_thr (okT_rfl t) _) _) (by first | exact gxw (gx_rfl _) (by decide) (by decide) | exact gxw (gx_ge1 (gx_rfl _)) (by decide) (by decide) | exact gxw (gx_gt1 (gx_rfl _)) (by decide) (by decide) | exact gxw (gx_ge1 (gx_gt1 (gx_rfl _))) (by decide) (by decide) | exact gxw (gx_gt1 (gx_gt1 (gx_rfl _))) (by decide) (by decide) | exact gxw (gx_ge1 (gx_gt1 (gx_gt1 (gx_rfl _)))) (by decide) (by decide) | exact gxw (gx_gt1 (gx_gt1 (gx_gt1 (gx_rfl _)))) (by decide) (by decide) | exact gxw (gx_ge1 (gx_gt1 (gx_gt1 (gx_gt1 (gx_rfl _))))) (by decide) (by decide) | exact gxw (gx_gt1 (gx_gt1 (gx_gt1 (gx_gt1 (gx_rfl _))))) (by decide) (by decide) | exact gxw (gx_ge1 (gx_gt1 (gx_gt1 (gx_gt1 (gx_gt1 (gx_rfl _)))))) (by decide) (by decide) | exact gxw (gx_gt1 (gx_gt1 (gx_gt1 (gx_gt1 (gx_gt1 (gx_rfl _)))))) (by decide) (by decide) | exact gxw (gx_ge1 (gx_gt1 (gx_gt1 (gx_gt1 (gx_gt1 (gx_gt1 (gx_rfl _))))))) (by decide) (by decide)))⟩
  · simp (maxDischargeDepth := 12) only [t_X6_predictDue_b51, t_X6_predictDue_b44, t_X6_predictDue_b19, t_X6_predictDue_b0, t_X6_predictDue, not_true_eq_false, not_false_eq_true, forall_const, false_implies, true_implies, and_true, true_and, and_self, i10, n10, true_or, or_true, false_or, or_false, false_and, and_false, w_bnd2, w_bind, w_some, w_ite, w_thr, w_thr0, w_thr1, y_thr0, y_thr1, b1_some, b2_some, bi_0, zgd_bi, zgd0, zgd1, Classical.not_not, uSc_1, uSt_1, uAm_1, uAr_1, tS_s, tS_st, y_isCell, y_inRange, bi_if, bi_30, y_isOver, y_isFr (t := uSc t 2 0) hB hN3, ha]
    exact ⟨Rs20, (Po_ro hB hI rfl (okT_thr (okT_thr (okT_rfl t) _) _) (by first | exact gxw (gx_rfl _) (by decide) (by decide) | exact gxw (gx_ge1 (gx_rfl _)) (by decide) (by decide) | exact gxw (gx_gt1 (gx_rfl _)) (by decide) (by decide) | exact gxw (gx_ge1 (gx_gt1 (gx_rfl _))) (by decide) (by decide) | exact gxw (gx_gt1 (gx_gt1 (gx_rfl _))) (by decide) (by decide) | exact gxw (gx_ge1 (gx_gt1 (gx_gt1 (gx_rfl _)))) (by decide) (by decide) | exact gxw (gx_gt1 (gx_gt1 (gx_gt1 (gx_rfl _)))) (by decide) (by decide) | exact gxw (gx_ge1 (gx_gt1 (gx_gt1 (gx_gt1 (gx_rfl _))))) (by decide) (by decide) | exact gxw (gx_gt1 (gx_gt1 (gx_gt1 (gx_gt1 (gx_rfl _))))) (by decide) (by decide) | exact gxw (gx_ge1 (gx_gt1 (gx_gt1 (gx_gt1 (gx_gt1 (gx_rfl _)))))) (by decide) (by decide) | exact gxw (gx_gt1 (gx_gt1 (gx_gt1 (gx_gt1 (gx_gt1 (gx_rfl _)))))) (by decide) (by decide) | exact gxw (gx_ge1 (gx_gt1 (gx_gt1 (gx_gt1 (gx_gt1 (gx_gt1 (gx_rfl _))))))) (by decide) (by decide)))⟩
end OQ
