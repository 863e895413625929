/-! the halving line: the twin -/
set_option maxRecDepth 100000
section LTT
variable {E : zE} {t : twS} {s : cT} {o nf no mo : Nat}
theorem y_BF (h : RB s o nf no mo t.1) (hE : 1000 ≤ E.1) (f : Int32) {k : Nat} (hk : k < 58) {ln : Int32} (hl : ln = if k < 29 then Int32.ofNat (k + 1) else Int32.ofNat (100 + (k - 28))) : t_X6_cellsBefore E f ln t = some (Int32.ofNat (cnt (bef s o f k) 900), t) := by
  rw [← w_eq]
  unfold t_X6_cellsBefore t_X6_cellsBefore_b0
  refine w_lp (L := fun m i a => t_X6_cellsBefore_l5 E m f ln a i t) (n := 900) (by decide) (Inv := fun j a => a = Int32.ofNat (cnt (bef s o f k) j)) (fun m j a hj ha kk => ?_) (fun m a ha => ?_) 900 0 E.1 0 rfl (by omega) rfl
  · show Ww (t_X6_cellsBefore_l5 E (m + 1) f ln a (Int32.ofNat j) t) _
    have y1 : bef s o f k j → Ww (t_X6_cellsBefore_l5 E m f ln (a + 1) (Int32.ofNat (j + 1)) t) _ := fun hh => kk _ (by rw [ha, cnt_y hh]; exact i32_s _)
    have y0 : ¬ bef s o f k j → Ww (t_X6_cellsBefore_l5 E m f ln (a + 0) (Int32.ofNat (j + 1)) t) _ := fun hh => kk _ (by rw [ha, cnt_n hh]; exact Int32.add_zero _)
    unfold t_X6_cellsBefore_l5 t_X6_cellsBefore_b61 t_X6_cellsBefore_b65 t_X6_cellsBefore_b66
    rw [if_neg (le900 hj), y_cell hj, b1_some, r_cel h hj, i32_mod30 (by omega), i32_div30 (by omega), i32_s]
    by_cases h1 : s.2.1 (o + 16) j = f
    · rw [if_pos (i32_64_inj.mpr h1)]
      by_cases c : k < 29
      · rw [if_pos c] at hl
        rw [hl, if_neg (show ¬ (100 : Int32) ≤ Int32.ofNat (k + 1) from fun e => by have := (i32_le (a := 100) (by decide) (by omega)).mp e; omega)]
        rw [hl] at y1 y0
        by_cases q : k + 1 ≤ j % 30
        · rw [if_pos ((i32_le (by omega) (by omega)).mpr q)]
          exact y0 (fun hh => by have := hh.2; rw [if_pos c] at this; omega)
        · rw [if_neg (fun e => q ((i32_le (by omega) (by omega)).mp e))]
          exact y1 ⟨h1, by rw [if_pos c]; omega⟩
      · rw [if_neg c] at hl
        rw [hl, if_pos (show (100 : Int32) ≤ Int32.ofNat (100 + (k - 28)) from (i32_le (a := 100) (by decide) (by omega)).mpr (by omega))]
        rw [hl] at y1 y0
        rw [show Int32.ofNat (100 + (k - 28)) - (100 : Int32) = Int32.ofNat (k - 28) from by show Int32.ofNat (100 + (k - 28)) - Int32.ofNat 100 = _; rw [i32_sub (by omega) (by omega)]; congr 1; omega]
        by_cases q : k - 28 ≤ j / 30
        · rw [if_pos ((i32_le (by omega) (by omega)).mpr q)]
          exact y0 (fun hh => by have := hh.2; rw [if_neg c] at this; omega)
        · rw [if_neg (fun e => q ((i32_le (by omega) (by omega)).mp e))]
          exact y1 ⟨h1, by rw [if_neg c]; omega⟩
    · rw [if_neg (fun e => h1 (i32_64_inj.mp e))]
      exact y0 (fun q => h1 q.1)
  · show Ww (t_X6_cellsBefore_l5 E (m + 1) f ln a (Int32.ofNat 900) t) _
    unfold t_X6_cellsBefore_l5
    rw [if_pos re900, w_some, ha]
theorem tld_m1 {k : Nat} (hk : k = 58 ∨ k < 58) : tld k = -1 ↔ k = 58 := by
  unfold tld
  by_cases q : k = 58
  · rw [if_pos q]; exact ⟨fun _ => q, fun _ => rfl⟩
  · rw [if_neg q]
    refine ⟨fun e => ?_, fun e => absurd e q⟩
    by_cases c : k < 29
    · rw [if_pos c] at e; exact absurd e (i32_neg1 (by omega))
    · rw [if_neg c] at e; exact absurd e (i32_neg1 (by omega))
theorem y_HL (h : RB s o nf no mo t.1) (hE : 1000 ≤ E.1) (f : Int32) (hp : 0 < cnt (ownd s o f) 900) : t_X6_halvingLine_l42 E E.1 f (Int32.ofNat (cnt (ownd s o f) 900)) (-1 : Int32) (0 : Int32) (0 : Int32) t = some (tld (hb s o f 58), t) := by
  have b2 := cnt_le (ownd s o f) 900
  rw [← w_eq]
  refine w_lp (σ := Int32 × Int32) (L := fun m i a => t_X6_halvingLine_l42 E m f (Int32.ofNat (cnt (ownd s o f) 900)) a.1 a.2 i t) (n := 58) (by decide) (Inv := fun j a => a.1 = tld (hb s o f j) ∧ (¬ hb s o f j = 58 → a.2 = Int32.ofNat (dv s o f (hb s o f j)))) (fun m j a hj ha k => ?_) (fun m a ha => ?_) 58 0 E.1 (-1, 0) rfl (by omega) ⟨rfl, fun q => absurd rfl q⟩
  · show Ww (t_X6_halvingLine_l42 E (m + 1) f (Int32.ofNat (cnt (ownd s o f) 900)) a.1 a.2 (Int32.ofNat j) t) _
    obtain ⟨ha1, ha2⟩ := ha
    have d1 := dv_le s o f j
    have d2 := dv_le s o f (hb s o f j)
    have hl := hb_le s o f j (by omega)
    have y1 : (hb s o f j = 58 ∨ dv s o f j < dv s o f (hb s o f j)) → Ww (t_X6_halvingLine_l42 E m f (Int32.ofNat (cnt (ownd s o f) 900)) (tld j) (Int32.ofNat (dv s o f j)) (Int32.ofNat (j + 1)) t) _ := fun hh => k (tld j, Int32.ofNat (dv s o f j)) (by rw [hb_y hh]; exact ⟨rfl, fun _ => rfl⟩)
    have y0 : ¬ (hb s o f j = 58 ∨ dv s o f j < dv s o f (hb s o f j)) → Ww (t_X6_halvingLine_l42 E m f (Int32.ofNat (cnt (ownd s o f) 900)) a.1 a.2 (Int32.ofNat (j + 1)) t) _ := fun hh => k a (by rw [hb_n hh]; exact ⟨ha1, ha2⟩)
    have step : Ww (t_X6_halvingLine_b75 E (t_X6_halvingLine_l42 E m) f (Int32.ofNat (cnt (ownd s o f) 900)) a.1 a.2 (Int32.ofNat j) (tld j) t) (fun z => z = (tld (hb s o f 58), t)) := by
      have el : tld j = if j < 29 then Int32.ofNat (j + 1) else Int32.ofNat (100 + (j - 28)) := if_neg (by omega)
      have bl := bef_le s o f j 900 (Nat.le_refl _)
      unfold t_X6_halvingLine_b75 t_X6_halvingLine_b108 t_X6_halvingLine_b115
      rw [y_BF h hE f hj el, b2_some, y_size, b2_some, i32_s]
      have ev : (if 0 ≤ Int32.ofNat (cnt (ownd s o f) 900) - (2 : Int32) * Int32.ofNat (cnt (bef s o f j) 900) then Int32.ofNat (cnt (ownd s o f) 900) - (2 : Int32) * Int32.ofNat (cnt (bef s o f j) 900) else -(Int32.ofNat (cnt (ownd s o f) 900) - (2 : Int32) * Int32.ofNat (cnt (bef s o f j) 900))) = Int32.ofNat (dv s o f j) := by
        rw [show (2 : Int32) * Int32.ofNat (cnt (bef s o f j) 900) = Int32.ofNat (2 * cnt (bef s o f j) 900) from (Int32.ofNat_mul 2 _).symm, i32_abs (by omega) (by omega)]
        rfl
      rw [ev]
      by_cases q : hb s o f j = 58
      · rw [if_pos (by rw [ha1]; exact (tld_m1 hl).mpr q)]
        exact y1 (Or.inl q)
      · rw [if_neg (by rw [ha1]; exact fun e => q ((tld_m1 hl).mp e)), ha2 q]
        by_cases c : dv s o f j < dv s o f (hb s o f j)
        · rw [if_pos ((i32_lt (by omega) (by omega)).mpr c)]
          exact y1 (Or.inr c)
        · rw [if_neg (fun e => c ((i32_lt (by omega) (by omega)).mp e)), ← ha2 q]
          exact y0 (fun e => e.elim q c)
    unfold t_X6_halvingLine_l42
    rw [if_neg (le58 hj), if_neg (show ¬ Int32.ofNat (cnt (ownd s o f) 900) ≤ (0 : Int32) from fun e => by have := (i32_le (b := 0) (by omega) (by decide)).mp e; omega)]
    by_cases c : j < 29
    · rw [if_neg (show ¬ (29 : Int32) ≤ Int32.ofNat j from fun e => by have := (i32_le (a := 29) (by decide) (by omega)).mp e; omega), i32_s]
      have el : tld j = Int32.ofNat (j + 1) := by unfold tld; rw [if_neg (by omega), if_pos c]
      rw [← el]
      exact step
    · rw [if_pos (show (29 : Int32) ≤ Int32.ofNat j from (i32_le (a := 29) (by decide) (by omega)).mpr (by omega))]
      have el : tld j = (100 : Int32) + Int32.ofNat j - (28 : Int32) := by
        unfold tld
        rw [if_neg (by omega), if_neg c]
        show _ = Int32.ofNat 100 + Int32.ofNat j - Int32.ofNat 28
        rw [← Int32.ofNat_add, i32_sub (by omega) (by omega)]
        congr 1
        omega
      rw [← el]
      exact step
  · show Ww (t_X6_halvingLine_l42 E (m + 1) f (Int32.ofNat (cnt (ownd s o f) 900)) a.1 a.2 (Int32.ofNat 58) t) _
    unfold t_X6_halvingLine_l42 t_X6_halvingLine_b121
    rw [if_pos re58, w_some, ha.1]
end LTT
section OQ
variable {E : zE} {N : iN} {mo n : Nat} {s s1 : cT} {t t1 : twS} {g g1 : zH}
theorem o_halvingLine (h : Pr E N mo n s t g) (p1 : Int32) : Ww (c_X1_halvingLine E N p1 s g) fun z => Ww (t_X6_halvingLine E p1 t) fun w => Rs ec1 z.1 w.1 (tSc w.2 2) ∧ Po N mo n s t g z.2.1 w.2 z.2.2 := by
  obtain ⟨hB, hI, hR, hJ, hE, hr, hS, hO, hS3, hS8, hnn, h200⟩ := h
  obtain ⟨h60, h8, h16, h4⟩ := hI.1
  have hE1 : 1000 ≤ E.1 := by omega
  have hN1 : N.2.1 < 1000 := by omega
  have hN2 : N.2.2.1 < 1000 := by omega
  have hN3 : N.2.1 < 2 ^ 31 := by omega
  have hN4 : N.2.2.2.1 < 2 ^ 31 := by omega
  have rB : ∀ k m, k ≤ 300 → m ≤ 3000 → rm g k m := fun k m a b => rm_le hr a b
  have b2 := cnt_le (ownd s N.1 p1) 900
  simp (maxDischargeDepth := 12) only [c_X1_halvingLine_b88, c_X1_halvingLine_b84, c_X1_halvingLine_b38, c_X1_halvingLine_b0, c_X1_halvingLine, c_X1_area_b0, c_X1_area, w_bnd2, w_bind, w_some, w_ite, el_l, el_r, b1_some, b2_some, bi_if, bi_30, bi_0, zgd_bi, zgd0, zgd1, Classical.not_not, x_nA1, x_nA2, x_nA4, x_sI10, x_sI20, x_sI21, x_sI40, x_sI41, x_sI42, x_sI43, gb1, gb2, gb4, x_isP, x_isAm, x_isAc, x_isOp, x_isOT, rm_gt, rm_ge, rB, Nat.reduceAdd, Nat.reduceLeDiff, Nat.reduceLT, not_true_eq_false, not_false_eq_true, forall_const, false_implies, true_implies, and_true, true_and, and_self, i10, n10, true_or, or_true, false_or, or_false, false_and, and_false, w_rI hE1, w_rA hE1, w_fr hE1 hN1, w_ou hE1 hN2, x_isFr hN3, x_isPl hN4, x_area hE1, sm_own, x_HL hE1]
  have ea : ∀ u : twS, u.1 = t.1 → t_X6_areaOf E p1 u = some (Int32.ofNat (cnt (ownd s N.1 p1) 900), u) := fun u hu => by
    rw [y_area hE1, ← sm_own]
    refine congrArg (fun v => some (v, u)) (sm_cg fun c hc => bi_c ?_)
    rw [hu, r_cel hB hc, i32_64_inj]
  refine ⟨fun ha => ⟨fun hz => ?_, fun hz => ?_⟩, fun ha => ?_⟩
  · simp (maxDischargeDepth := 12) only [t_X6_halvingLine_b121, t_X6_halvingLine_b115, t_X6_halvingLine_b108, t_X6_halvingLine_b75, t_X6_halvingLine_b19, t_X6_halvingLine_b0, t_X6_halvingLine, not_true_eq_false, not_false_eq_true, forall_const, false_implies, true_implies, and_true, true_and, and_self, i10, n10, true_or, or_true, false_or, or_false, false_and, and_false, w_bnd2, w_bind, w_some, w_ite, w_thr, w_thr0, w_thr1, y_thr0, y_thr1, b1_some, b2_some, bi_0, zgd_bi, zgd0, zgd1, Classical.not_not, uSc_1, uSt_1, uAm_1, uAr_1, tS_s, tS_st, y_isCell, y_inRange, bi_if, bi_30, y_isOver, y_isFr (t := uSc t 2 0) hB hN3, ha, ea (uSc t 2 0) rfl]
    obtain ⟨m, hm⟩ : ∃ m, E.1 = m + 1 := ⟨E.1 - 1, by omega⟩
    rw [hz, hm]
    unfold t_X6_halvingLine_l42 t_X6_halvingLine_b121
    rw [if_neg (by decide), if_pos (by decide), w_some]
    exact ⟨Rs_l rfl, (Po_ro hB hI rfl (okT_thr (okT_rfl t) _) (by first | exact gxw (gx_rfl _) (by decide) (by decide) | exact gxw (gx_ge1 (gx_rfl _)) (by decide) (by decide) | exact gxw (gx_gt1 (gx_rfl _)) (by decide) (by decide) | exact gxw (gx_ge1 (gx_gt1 (gx_rfl _))) (by decide) (by decide) | exact gxw (gx_gt1 (gx_gt1 (gx_rfl _))) (by decide) (by decide) | exact gxw (gx_ge1 (gx_gt1 (gx_gt1 (gx_rfl _)))) (by decide) (by decide) | exact gxw (gx_gt1 (gx_gt1 (gx_gt1 (gx_rfl _)))) (by decide) (by decide) | exact gxw (gx_ge1 (gx_gt1 (gx_gt1 (gx_gt1 (gx_rfl _))))) (by decide) (by decide) | exact gxw (gx_gt1 (gx_gt1 (gx_gt1 (gx_gt1 (gx_rfl _))))) (by decide) (by decide) | exact gxw (gx_ge1 (gx_gt1 (gx_gt1 (gx_gt1 (gx_gt1 (gx_rfl _)))))) (by decide) (by decide) | exact gxw (gx_gt1 (gx_gt1 (gx_gt1 (gx_gt1 (gx_gt1 (gx_rfl _)))))) (by decide) (by decide) | exact gxw (gx_ge1 (gx_gt1 (gx_gt1 (gx_gt1 (gx_gt1 (gx_gt1 (gx_rfl _))))))) (by decide) (by decide)))⟩
  · have hp : 0 < cnt (ownd s N.1 p1) 900 := by
      by_cases q : cnt (ownd s N.1 p1) 900 = 0
      · rw [q] at hz; exact absurd rfl hz
      · omega
    simp (maxDischargeDepth := 12) only [t_X6_halvingLine_b121, t_X6_halvingLine_b115, t_X6_halvingLine_b108, t_X6_halvingLine_b75, t_X6_halvingLine_b19, t_X6_halvingLine_b0, t_X6_halvingLine, not_true_eq_false, not_false_eq_true, forall_const, false_implies, true_implies, and_true, true_and, and_self, i10, n10, true_or, or_true, false_or, or_false, false_and, and_false, w_bnd2, w_bind, w_some, w_ite, w_thr, w_thr0, w_thr1, y_thr0, y_thr1, b1_some, b2_some, bi_0, zgd_bi, zgd0, zgd1, Classical.not_not, uSc_1, uSt_1, uAm_1, uAr_1, tS_s, tS_st, y_isCell, y_inRange, bi_if, bi_30, y_isOver, y_isFr (t := uSc t 2 0) hB hN3, ha, ea (uSc t 2 0) rfl, y_HL (t := uSc t 2 0) hB hE1 p1 hp]
    exact ⟨Rs_l rfl, (Po_ro hB hI rfl (okT_thr (okT_rfl t) _) (by first | exact gxw (gx_rfl _) (by decide) (by decide) | exact gxw (gx_ge1 (gx_rfl _)) (by decide) (by decide) | exact gxw (gx_gt1 (gx_rfl _)) (by decide) (by decide) | exact gxw (gx_ge1 (gx_gt1 (gx_rfl _))) (by decide) (by decide) | exact gxw (gx_gt1 (gx_gt1 (gx_rfl _))) (by decide) (by decide) | exact gxw (gx_ge1 (gx_gt1 (gx_gt1 (gx_rfl _)))) (by decide) (by decide) | exact gxw (gx_gt1 (gx_gt1 (gx_gt1 (gx_rfl _)))) (by decide) (by decide) | exact gxw (gx_ge1 (gx_gt1 (gx_gt1 (gx_gt1 (gx_rfl _))))) (by decide) (by decide) | exact gxw (gx_gt1 (gx_gt1 (gx_gt1 (gx_gt1 (gx_rfl _))))) (by decide) (by decide) | exact gxw (gx_ge1 (gx_gt1 (gx_gt1 (gx_gt1 (gx_gt1 (gx_rfl _)))))) (by decide) (by decide) | exact gxw (gx_gt1 (gx_gt1 (gx_gt1 (gx_gt1 (gx_gt1 (gx_rfl _)))))) (by decide) (by decide) | exact gxw (gx_ge1 (gx_gt1 (gx_gt1 (gx_gt1 (gx_gt1 (gx_gt1 (gx_rfl _))))))) (by decide) (by decide)))⟩
  · simp (maxDischargeDepth := 12) only [t_X6_halvingLine_b121, t_X6_halvingLine_b115, t_X6_halvingLine_b108, t_X6_halvingLine_b75, t_X6_halvingLine_b19, t_X6_halvingLine_b0, t_X6_halvingLine, not_true_eq_false, not_false_eq_true, forall_const, false_implies, true_implies, and_true, true_and, and_self, i10, n10, true_or, or_true, false_or, or_false, false_and, and_false, w_bnd2, w_bind, w_some, w_ite, w_thr, w_thr0, w_thr1, y_thr0, y_thr1, b1_some, b2_some, bi_0, zgd_bi, zgd0, zgd1, Classical.not_not, uSc_1, uSt_1, uAm_1, uAr_1, tS_s, tS_st, y_isCell, y_inRange, bi_if, bi_30, y_isOver, y_isFr (t := uSc t 2 0) hB hN3, ha]
    exact ⟨Rs20, (Po_ro hB hI rfl (okT_thr (okT_thr (okT_rfl t) _) _) (by first | exact gxw (gx_rfl _) (by decide) (by decide) | exact gxw (gx_ge1 (gx_rfl _)) (by decide) (by decide) | exact gxw (gx_gt1 (gx_rfl _)) (by decide) (by decide) | exact gxw (gx_ge1 (gx_gt1 (gx_rfl _))) (by decide) (by decide) | exact gxw (gx_gt1 (gx_gt1 (gx_rfl _))) (by decide) (by decide) | exact gxw (gx_ge1 (gx_gt1 (gx_gt1 (gx_rfl _)))) (by decide) (by decide) | exact gxw (gx_gt1 (gx_gt1 (gx_gt1 (gx_rfl _)))) (by decide) (by decide) | exact gxw (gx_ge1 (gx_gt1 (gx_gt1 (gx_gt1 (gx_rfl _))))) (by decide) (by decide) | exact gxw (gx_gt1 (gx_gt1 (gx_gt1 (gx_gt1 (gx_rfl _))))) (by decide) (by decide) | exact gxw (gx_ge1 (gx_gt1 (gx_gt1 (gx_gt1 (gx_gt1 (gx_rfl _)))))) (by decide) (by decide) | exact gxw (gx_gt1 (gx_gt1 (gx_gt1 (gx_gt1 (gx_gt1 (gx_rfl _)))))) (by decide) (by decide) | exact gxw (gx_ge1 (gx_gt1 (gx_gt1 (gx_gt1 (gx_gt1 (gx_gt1 (gx_rfl _))))))) (by decide) (by decide)))⟩
end OQ
