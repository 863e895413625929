/-! votes -/
set_option maxRecDepth 100000
theorem bit_a : ∀ v, v < 32 → ∀ m, m < 5 → ((((Int32.ofNat v) >>> (Int32.ofNat m &&& 31)) &&& 1 = 1) ↔ (((Int64.ofNat v) >>> (Int64.ofNat m &&& 63)) &&& 1 = 1)) := by decide +kernel
theorem bit_b : ∀ v, v < 32 → ∀ m, m < 5 → ¬ (((Int32.ofNat v) >>> (Int32.ofNat m &&& 31)) &&& 1 = 1) → ((Int32.ofNat v) ||| ((1 : Int32) <<< (Int32.ofNat m &&& 31))).toInt64 = Int64.ofNat v + ((1 : Int64) <<< (Int64.ofNat m &&& 63)) ∧ 0 ≤ (Int64.ofNat v + ((1 : Int64) <<< (Int64.ofNat m &&& 63))).toInt ∧ (Int64.ofNat v + ((1 : Int64) <<< (Int64.ofNat m &&& 63))).toInt ≤ 31 := by decide +kernel
theorem nat_of_btw {x : Int32} {b : Nat} (h : btw x.toInt64 0 b) (hb : b < 2 ^ 31) : ∃ v, v ≤ b ∧ x = Int32.ofNat v := by
  unfold btw at h
  rw [Int32.toInt_toInt64] at h
  refine ⟨x.toInt.toNat, by omega, ?_⟩
  apply Int32.toInt_inj.mp
  rw [i32_toInt (by omega)]
  omega
theorem inc64 {x : Int32} (h : btw x.toInt64 0 5) : x.toInt64 + 1 = (x + 1).toInt64 := by
  unfold btw at h
  rw [Int32.toInt_toInt64] at h
  rw [← Int64.toInt_inj, Int64.toInt_add, Int32.toInt_toInt64, Int32.toInt_toInt64, Int32.toInt_add]
  show (x.toInt + 1).bmod (2 ^ 64) = (x.toInt + 1).bmod (2 ^ 32)
  rw [Int.bmod_eq_of_le (by omega) (by omega), Int.bmod_eq_of_le (by omega) (by omega)]
theorem inc_b {x : Int32} (h : btw x.toInt64 0 5) (hq : x.toInt64.toInt ≤ 2) : btw (x + 1).toInt64 0 5 ∧ (¬ x + 1 = 3 → (x + 1).toInt64.toInt ≤ 2) := by
  unfold btw at h ⊢
  rw [Int32.toInt_toInt64] at h hq
  have e : (x + 1).toInt = x.toInt + 1 := by
    rw [Int32.toInt_add]
    show (x.toInt + 1).bmod (2 ^ 32) = _
    rw [Int.bmod_eq_of_le (by omega) (by omega)]
  rw [Int32.toInt_toInt64, e]
  refine ⟨by omega, fun hn => ?_⟩
  by_cases c : x.toInt = 2
  · exact absurd (Int32.toInt_inj.mp (show (x + 1).toInt = (3 : Int32).toInt by rw [e, c]; decide)) hn
  · omega
theorem ne3 {x : Int32} (h : x.toInt64.toInt ≤ 2) : ¬ x = 3 := fun e => by rw [e] at h; exact absurd h (by decide)
theorem ll32_2 : (2 : Int64).toInt32 = 2 := by decide
theorem ll32_3 : (3 : Int64).toInt32 = 3 := by decide
section PO
variable {E : zE} {N : iN} {mo n : Nat} {s s1 : cT} {t t1 : twS} {g g1 : zH}
theorem o_vote (h : Pr E N mo n s t g) (p1 p2 p3 : Int32) : Ww (c_X1_vote E N p1 p2 p3 s g) fun z => Ww (t_X6_vote E p1 p2 p3 t) fun w => Rs ec2 z.1 w.1 (tSc w.2 2) ∧ Po N mo n s t g z.2.1 w.2 z.2.2 := by
  have hP := h
  obtain ⟨hB, hI, hR, hJ, hE, hr, hS, hO, hS3, hS8, hnn, h200⟩ := h
  obtain ⟨h60, h8, h16, h4⟩ := hI.1
  have hE1 : 1000 ≤ E.1 := by omega
  have hN1 : N.2.1 < 1000 := by omega
  have hN2 : N.2.2.1 < 1000 := by omega
  have hN3 : N.2.1 < 2 ^ 31 := by omega
  have hN4 : N.2.2.2.1 < 2 ^ 31 := by omega
  have rB : ∀ k m, k ≤ 300 → m ≤ 3000 → rm g k m := fun k m a b => rm_le hr a b
  simp (maxDischargeDepth := 12) only [c_X1_vote_b61, c_X1_vote_b50, c_X1_vote_b0, c_X1_vote, c_X12_vote_b65, c_X12_vote_b39, c_X12_vote_b0, c_X12_vote, w_bnd2, w_bind, w_some, w_ite, el_l, el_r, b1_some, b2_some, bi_if, bi_30, bi_0, zgd_bi, zgd0, zgd1, Classical.not_not, x_nA1, x_nA2, x_nA4, x_sI10, x_sI20, x_sI21, x_sI40, x_sI41, x_sI42, x_sI43, gb1, gb2, gb4, x_isP, x_isAm, x_isAc, x_isOp, x_isOT, rm_gt, rm_ge, rB, Nat.reduceAdd, Nat.reduceLeDiff, Nat.reduceLT, not_true_eq_false, not_false_eq_true, forall_const, false_implies, true_implies, and_true, true_and, and_self, i10, n10, true_or, or_true, false_or, or_false, false_and, and_false, w_rI hE1, w_rA hE1, w_fr hE1 hN1, w_ou hE1 hN2, x_isFr hN3, x_isPl hN4, uSt_1, uSc_1, uAm_1, uAr_1, va_app, uI_app, uL_app, uI_L, uL_I, uI_R, uL_R, uI_S, uL_S, Nat.add_left_cancel_iff, Nat.add_right_cancel_iff, Nat.reduceEqDiff, if_true, if_false, and_true, true_and, and_false, false_and, and_self, reduceIte]
  refine ⟨fun i e hi => ⟨fun ha => ⟨fun hb => ⟨fun hc => ?_, fun hc => ⟨fun hd => ?_, fun hd => ?_⟩⟩, fun hb => ?_⟩, fun ha => ?_⟩, fun hn => ?_⟩
  all_goals try subst e
  · obtain ⟨v, hv, ev⟩ := nat_of_btw (b := 31) (by have := (hI.2.1 i hi).2.2.2.2.2.2.2.2.2.1; rw [r_tvo hB hi] at this; exact this) (by decide)
    obtain ⟨m, hm, em⟩ := nat_of_btw (b := 4) (btw_of (a := 0) (b := 4) ha) (by decide)
    rw [ev, em] at hc
    have hc2 := (bit_a v (by omega) m (by omega)).mp hc
    have ev2 : (s.2.1 (N.1 + 140 + i) 5).toInt64 = Int64.ofNat v := by rw [ev, i32_64 (by omega)]
    have em2 : p2.toInt64 = Int64.ofNat m := by rw [em, i32_64 (by omega)]
    simp (maxDischargeDepth := 12) only [t_X6_vote_b51, t_X6_vote_b81, t_X6_vote_b158, t_X6_vote_b134, t_X6_vote_b106, t_X6_vote_b44, t_X6_vote_b19, t_X6_vote_b0, t_X6_vote, not_true_eq_false, not_false_eq_true, forall_const, false_implies, true_implies, and_true, true_and, and_self, i10, n10, true_or, or_true, false_or, or_false, false_and, and_false, w_bnd2, w_bind, w_some, w_ite, w_thr, w_thr0, w_thr1, y_thr0, y_thr1, b1_some, b2_some, bi_0, zgd_bi, zgd0, zgd1, Classical.not_not, uSc_1, uSt_1, uAm_1, uAr_1, tS_s, tS_st, y_isCell, y_inRange, bi_if, bi_30, y_isOver, y_isFr (t := uSc t 2 0) hB hN3, inF_n (show i < 2 ^ 31 by omega), hi, ha, y_of9 (show i < 8 by omega), y_of13 (show i < 8 by omega), r_plan hB hi, r_worth hB hi, r_stat hB hi, r_bal hB hi, r_gen hB hi, r_over hB hi, r_con hB hi, r_gra hB hi, r_tst hB hi, r_two hB hi, r_tpr hB hi, r_tmo hB hi, r_tvo hB hi, r_tye hB hi, r_tno hB hi, le_1, hb, ev2, em2, hc2]
    rw [em2] at ha
    simp (maxDischargeDepth := 12) only [ha, not_true_eq_false, not_false_eq_true, forall_const, false_implies, true_implies, and_true, true_and, and_self, i10, n10, true_or, or_true, false_or, or_false, false_and, and_false]
    exact ⟨Rs_l rfl, (Po_ro hB hI rfl (okT_thr (okT_rfl t) _) (by first | exact gxw (gx_rfl _) (by decide) (by decide) | exact gxw (gx_ge1 (gx_rfl _)) (by decide) (by decide) | exact gxw (gx_gt1 (gx_rfl _)) (by decide) (by decide) | exact gxw (gx_ge1 (gx_gt1 (gx_rfl _))) (by decide) (by decide) | exact gxw (gx_gt1 (gx_gt1 (gx_rfl _))) (by decide) (by decide) | exact gxw (gx_ge1 (gx_gt1 (gx_gt1 (gx_rfl _)))) (by decide) (by decide) | exact gxw (gx_gt1 (gx_gt1 (gx_gt1 (gx_rfl _)))) (by decide) (by decide) | exact gxw (gx_ge1 (gx_gt1 (gx_gt1 (gx_gt1 (gx_rfl _))))) (by decide) (by decide) | exact gxw (gx_gt1 (gx_gt1 (gx_gt1 (gx_gt1 (gx_rfl _))))) (by decide) (by decide) | exact gxw (gx_ge1 (gx_gt1 (gx_gt1 (gx_gt1 (gx_gt1 (gx_rfl _)))))) (by decide) (by decide) | exact gxw (gx_gt1 (gx_gt1 (gx_gt1 (gx_gt1 (gx_gt1 (gx_rfl _)))))) (by decide) (by decide) | exact gxw (gx_ge1 (gx_gt1 (gx_gt1 (gx_gt1 (gx_gt1 (gx_gt1 (gx_rfl _))))))) (by decide) (by decide)))⟩
  · obtain ⟨v, hv, ev⟩ := nat_of_btw (b := 31) (by have := (hI.2.1 i hi).2.2.2.2.2.2.2.2.2.1; rw [r_tvo hB hi] at this; exact this) (by decide)
    obtain ⟨m, hm, em⟩ := nat_of_btw (b := 4) (btw_of (a := 0) (b := 4) ha) (by decide)
    have hf := hI.2.1 i hi
    have q9 : t.1 (58 + 16 * i + 9) = 1 := by rw [r_tst hB hi, hb]; decide
    have qy := (hf.2.2.2.2.2.2.2.2.2.2.2.2 q9).1
    have qn := (hf.2.2.2.2.2.2.2.2.2.2.2.2 q9).2
    have iy := inc64 (by have := hf.2.2.2.2.2.2.2.2.2.2.1; rw [r_tye hB hi] at this; exact this)
    have iN := inc64 (by have := hf.2.2.2.2.2.2.2.2.2.2.2.1; rw [r_tno hB hi] at this; exact this)
    rw [r_tye hB hi] at qy
    rw [r_tno hB hi] at qn
    rw [ev, em] at hc
    have hc2 := (not_congr (bit_a v (by omega) m (by omega))).mp hc
    obtain ⟨bb1, bb2, bb3⟩ := bit_b v (by omega) m (by omega) hc
    have ev2 : (s.2.1 (N.1 + 140 + i) 5).toInt64 = Int64.ofNat v := by rw [ev, i32_64 (by omega)]
    have em2 : (Int32.ofNat m).toInt64 = Int64.ofNat m := i32_64 (by omega)
    subst em
    have ha2 := ha
    rw [em2] at ha2
    refine ⟨fun hx => absurd hx (ne3 qy), fun hx => ⟨fun hz => ?_, fun hz => ?_⟩⟩
    · have nb := ne3 qy
      simp (maxDischargeDepth := 12) only [t_X6_vote_b51, t_X6_vote_b81, t_X6_vote_b158, t_X6_vote_b134, t_X6_vote_b106, t_X6_vote_b44, t_X6_vote_b19, t_X6_vote_b0, t_X6_vote, not_true_eq_false, not_false_eq_true, forall_const, false_implies, true_implies, and_true, true_and, and_self, i10, n10, true_or, or_true, false_or, or_false, false_and, and_false, w_bnd2, w_bind, w_some, w_ite, w_thr, w_thr0, w_thr1, y_thr0, y_thr1, b1_some, b2_some, bi_0, zgd_bi, zgd0, zgd1, Classical.not_not, uSc_1, uSt_1, uAm_1, uAr_1, tS_s, tS_st, y_isCell, y_inRange, bi_if, bi_30, y_isOver, y_isFr (t := uSc t 2 0) hB hN3, inF_n (show i < 2 ^ 31 by omega), hi, ha2, y_of9 (show i < 8 by omega), y_of13 (show i < 8 by omega), y_of14 (show i < 8 by omega), y_of15 (show i < 8 by omega), y_add13 (show i < 8 by omega), y_add14 (show i < 8 by omega), y_add15 (show i < 8 by omega), y_set9 (show i < 8 by omega), r_plan hB hi, r_worth hB hi, r_stat hB hi, r_bal hB hi, r_gen hB hi, r_over hB hi, r_con hB hi, r_gra hB hi, r_tst hB hi, r_two hB hi, r_tpr hB hi, r_tmo hB hi, r_tvo hB hi, r_tye hB hi, r_tno hB hi, uSt_1, uSc_1, uAm_1, uAr_1, va_app, uI_app, uL_app, uI_L, uL_I, uI_R, uL_R, uI_S, uL_S, Nat.add_left_cancel_iff, Nat.add_right_cancel_iff, Nat.reduceEqDiff, if_true, if_false, and_true, true_and, and_false, false_and, and_self, reduceIte, le_1, hb, ll_1, ev2, em2, hc2, hd, iy, iN, le_3, nb, hz]
      refine ⟨Rs_l (by first | rfl | decide), Po_fr hP hi (by repeat first | exact okT_rfl _ | exact ncst_fr (by omega) (by decide) | exact ncst_of (by omega) | apply okT_thr | apply okT_st | apply okT_ar | apply okT_am) (by first | exact gxw (gx_rfl _) (by decide) (by decide) | exact gxw (gx_ge1 (gx_rfl _)) (by decide) (by decide) | exact gxw (gx_gt1 (gx_rfl _)) (by decide) (by decide) | exact gxw (gx_ge1 (gx_gt1 (gx_rfl _))) (by decide) (by decide) | exact gxw (gx_gt1 (gx_gt1 (gx_rfl _))) (by decide) (by decide) | exact gxw (gx_ge1 (gx_gt1 (gx_gt1 (gx_rfl _)))) (by decide) (by decide) | exact gxw (gx_gt1 (gx_gt1 (gx_gt1 (gx_rfl _)))) (by decide) (by decide) | exact gxw (gx_ge1 (gx_gt1 (gx_gt1 (gx_gt1 (gx_rfl _))))) (by decide) (by decide) | exact gxw (gx_gt1 (gx_gt1 (gx_gt1 (gx_gt1 (gx_rfl _))))) (by decide) (by decide) | exact gxw (gx_ge1 (gx_gt1 (gx_gt1 (gx_gt1 (gx_gt1 (gx_rfl _)))))) (by decide) (by decide) | exact gxw (gx_gt1 (gx_gt1 (gx_gt1 (gx_gt1 (gx_gt1 (gx_rfl _)))))) (by decide) (by decide) | exact gxw (gx_ge1 (gx_gt1 (gx_gt1 (gx_gt1 (gx_gt1 (gx_gt1 (gx_rfl _))))))) (by decide) (by decide)) (fun y hy => by rw [uSt_1, cu_ne _ _ (by omega), cu_ne _ _ (by omega), cu_ne _ _ (by omega)]) rfl rfl (fun c h1 h2 => ⟨?_, rfl⟩) ?_ ?_⟩
      · rw [uI_row _ h2, uI_row _ h2, uI_row _ h2]
      · unfold frR
        simp (maxDischargeDepth := 12) only [uSt_1, uSc_1, uAm_1, uAr_1, va_app, uI_app, uL_app, uI_L, uL_I, uI_R, uL_R, uI_S, uL_S, Nat.add_left_cancel_iff, Nat.add_right_cancel_iff, Nat.reduceEqDiff, if_true, if_false, and_true, true_and, and_false, false_and, and_self, reduceIte, r_plan hB hi, r_worth hB hi, r_stat hB hi, r_bal hB hi, r_gen hB hi, r_over hB hi, r_con hB hi, r_gra hB hi, r_tst hB hi, r_two hB hi, r_tpr hB hi, r_tmo hB hi, r_tvo hB hi, r_tye hB hi, r_tno hB hi, ll_2, ll_3, ll_1, hb, ev, bb1]
      · unfold frI at hf ⊢
        obtain ⟨f1, f3, f4, f5, f6, f7, f9, f11, f12, f13, f14, f15, f16⟩ := hf
        have g14 := inc_b (by rw [r_tye hB hi] at f14; exact f14) qy
        have g15 := inc_b (by rw [r_tno hB hi] at f15; exact f15) qn
        simp (maxDischargeDepth := 12) only [uSt_1, uSc_1, uAm_1, uAr_1, va_app, uI_app, uL_app, uI_L, uL_I, uI_R, uL_R, uI_S, uL_S, Nat.add_left_cancel_iff, Nat.add_right_cancel_iff, Nat.reduceEqDiff, if_true, if_false, and_true, true_and, and_false, false_and, and_self, reduceIte]
        refine ⟨f1, f3, btw_w f4 (by omega) (by omega), f5, f6, f7, ?_, f11, f12, ⟨bb2, bb3⟩, ?_, ?_, ?_⟩
        · first
            | exact ⟨by decide, by decide⟩
            | exact f9
        · first
            | exact f14
            | exact g14.1
            | exact ⟨by decide, by decide⟩
        · first
            | exact f15
            | exact g15.1
            | exact ⟨by decide, by decide⟩
        · first
            | exact fun q => absurd q (by decide)
            | exact fun q => ⟨(f16 q).1, g15.2 hz⟩
            | exact fun q => ⟨g14.2 hz, (f16 q).2⟩
            | exact fun q => ⟨g14.2 (by assumption), (f16 q).2⟩
    · have nb := ne3 qy
      simp (maxDischargeDepth := 12) only [t_X6_vote_b51, t_X6_vote_b81, t_X6_vote_b158, t_X6_vote_b134, t_X6_vote_b106, t_X6_vote_b44, t_X6_vote_b19, t_X6_vote_b0, t_X6_vote, not_true_eq_false, not_false_eq_true, forall_const, false_implies, true_implies, and_true, true_and, and_self, i10, n10, true_or, or_true, false_or, or_false, false_and, and_false, w_bnd2, w_bind, w_some, w_ite, w_thr, w_thr0, w_thr1, y_thr0, y_thr1, b1_some, b2_some, bi_0, zgd_bi, zgd0, zgd1, Classical.not_not, uSc_1, uSt_1, uAm_1, uAr_1, tS_s, tS_st, y_isCell, y_inRange, bi_if, bi_30, y_isOver, y_isFr (t := uSc t 2 0) hB hN3, inF_n (show i < 2 ^ 31 by omega), hi, ha2, y_of9 (show i < 8 by omega), y_of13 (show i < 8 by omega), y_of14 (show i < 8 by omega), y_of15 (show i < 8 by omega), y_add13 (show i < 8 by omega), y_add14 (show i < 8 by omega), y_add15 (show i < 8 by omega), hb, r_plan hB hi, r_worth hB hi, r_stat hB hi, r_bal hB hi, r_gen hB hi, r_over hB hi, r_con hB hi, r_gra hB hi, r_tst hB hi, r_two hB hi, r_tpr hB hi, r_tmo hB hi, r_tvo hB hi, r_tye hB hi, r_tno hB hi, uSt_1, uSc_1, uAm_1, uAr_1, va_app, uI_app, uL_app, uI_L, uL_I, uI_R, uL_R, uI_S, uL_S, Nat.add_left_cancel_iff, Nat.add_right_cancel_iff, Nat.reduceEqDiff, if_true, if_false, and_true, true_and, and_false, false_and, and_self, reduceIte, le_1, hb, ll_1, ev2, em2, hc2, hd, iy, iN, le_3, nb, hz]
      refine ⟨Rs_l (by first | rfl | decide), Po_fr hP hi (by repeat first | exact okT_rfl _ | exact ncst_fr (by omega) (by decide) | exact ncst_of (by omega) | apply okT_thr | apply okT_st | apply okT_ar | apply okT_am) (by first | exact gxw (gx_rfl _) (by decide) (by decide) | exact gxw (gx_ge1 (gx_rfl _)) (by decide) (by decide) | exact gxw (gx_gt1 (gx_rfl _)) (by decide) (by decide) | exact gxw (gx_ge1 (gx_gt1 (gx_rfl _))) (by decide) (by decide) | exact gxw (gx_gt1 (gx_gt1 (gx_rfl _))) (by decide) (by decide) | exact gxw (gx_ge1 (gx_gt1 (gx_gt1 (gx_rfl _)))) (by decide) (by decide) | exact gxw (gx_gt1 (gx_gt1 (gx_gt1 (gx_rfl _)))) (by decide) (by decide) | exact gxw (gx_ge1 (gx_gt1 (gx_gt1 (gx_gt1 (gx_rfl _))))) (by decide) (by decide) | exact gxw (gx_gt1 (gx_gt1 (gx_gt1 (gx_gt1 (gx_rfl _))))) (by decide) (by decide) | exact gxw (gx_ge1 (gx_gt1 (gx_gt1 (gx_gt1 (gx_gt1 (gx_rfl _)))))) (by decide) (by decide) | exact gxw (gx_gt1 (gx_gt1 (gx_gt1 (gx_gt1 (gx_gt1 (gx_rfl _)))))) (by decide) (by decide) | exact gxw (gx_ge1 (gx_gt1 (gx_gt1 (gx_gt1 (gx_gt1 (gx_gt1 (gx_rfl _))))))) (by decide) (by decide)) (fun y hy => by rw [uSt_1, cu_ne _ _ (by omega), cu_ne _ _ (by omega)]) rfl rfl (fun c h1 h2 => ⟨?_, rfl⟩) ?_ ?_⟩
      · rw [uI_row _ h2, uI_row _ h2, uI_row _ h2]
      · unfold frR
        simp (maxDischargeDepth := 12) only [uSt_1, uSc_1, uAm_1, uAr_1, va_app, uI_app, uL_app, uI_L, uL_I, uI_R, uL_R, uI_S, uL_S, Nat.add_left_cancel_iff, Nat.add_right_cancel_iff, Nat.reduceEqDiff, if_true, if_false, and_true, true_and, and_false, false_and, and_self, reduceIte, r_plan hB hi, r_worth hB hi, r_stat hB hi, r_bal hB hi, r_gen hB hi, r_over hB hi, r_con hB hi, r_gra hB hi, r_tst hB hi, r_two hB hi, r_tpr hB hi, r_tmo hB hi, r_tvo hB hi, r_tye hB hi, r_tno hB hi, ll_2, ll_3, ll_1, hb, ev, bb1]
      · unfold frI at hf ⊢
        obtain ⟨f1, f3, f4, f5, f6, f7, f9, f11, f12, f13, f14, f15, f16⟩ := hf
        have g14 := inc_b (by rw [r_tye hB hi] at f14; exact f14) qy
        have g15 := inc_b (by rw [r_tno hB hi] at f15; exact f15) qn
        simp (maxDischargeDepth := 12) only [uSt_1, uSc_1, uAm_1, uAr_1, va_app, uI_app, uL_app, uI_L, uL_I, uI_R, uL_R, uI_S, uL_S, Nat.add_left_cancel_iff, Nat.add_right_cancel_iff, Nat.reduceEqDiff, if_true, if_false, and_true, true_and, and_false, false_and, and_self, reduceIte]
        refine ⟨f1, f3, btw_w f4 (by omega) (by omega), f5, f6, f7, ?_, f11, f12, ⟨bb2, bb3⟩, ?_, ?_, ?_⟩
        · first
            | exact ⟨by decide, by decide⟩
            | exact f9
        · first
            | exact f14
            | exact g14.1
            | exact ⟨by decide, by decide⟩
        · first
            | exact f15
            | exact g15.1
            | exact ⟨by decide, by decide⟩
        · first
            | exact fun q => absurd q (by decide)
            | exact fun q => ⟨(f16 q).1, g15.2 hz⟩
            | exact fun q => ⟨g14.2 hz, (f16 q).2⟩
            | exact fun q => ⟨g14.2 (by assumption), (f16 q).2⟩
  · obtain ⟨v, hv, ev⟩ := nat_of_btw (b := 31) (by have := (hI.2.1 i hi).2.2.2.2.2.2.2.2.2.1; rw [r_tvo hB hi] at this; exact this) (by decide)
    obtain ⟨m, hm, em⟩ := nat_of_btw (b := 4) (btw_of (a := 0) (b := 4) ha) (by decide)
    have hf := hI.2.1 i hi
    have q9 : t.1 (58 + 16 * i + 9) = 1 := by rw [r_tst hB hi, hb]; decide
    have qy := (hf.2.2.2.2.2.2.2.2.2.2.2.2 q9).1
    have qn := (hf.2.2.2.2.2.2.2.2.2.2.2.2 q9).2
    have iy := inc64 (by have := hf.2.2.2.2.2.2.2.2.2.2.1; rw [r_tye hB hi] at this; exact this)
    have iN := inc64 (by have := hf.2.2.2.2.2.2.2.2.2.2.2.1; rw [r_tno hB hi] at this; exact this)
    rw [r_tye hB hi] at qy
    rw [r_tno hB hi] at qn
    rw [ev, em] at hc
    have hc2 := (not_congr (bit_a v (by omega) m (by omega))).mp hc
    obtain ⟨bb1, bb2, bb3⟩ := bit_b v (by omega) m (by omega) hc
    have ev2 : (s.2.1 (N.1 + 140 + i) 5).toInt64 = Int64.ofNat v := by rw [ev, i32_64 (by omega)]
    have em2 : (Int32.ofNat m).toInt64 = Int64.ofNat m := i32_64 (by omega)
    subst em
    have ha2 := ha
    rw [em2] at ha2
    refine ⟨fun hz => ?_, fun hz => ⟨fun hx => absurd hx (ne3 qn), fun hx => ?_⟩⟩
    · have nb := ne3 qn
      simp (maxDischargeDepth := 12) only [t_X6_vote_b51, t_X6_vote_b81, t_X6_vote_b158, t_X6_vote_b134, t_X6_vote_b106, t_X6_vote_b44, t_X6_vote_b19, t_X6_vote_b0, t_X6_vote, not_true_eq_false, not_false_eq_true, forall_const, false_implies, true_implies, and_true, true_and, and_self, i10, n10, true_or, or_true, false_or, or_false, false_and, and_false, w_bnd2, w_bind, w_some, w_ite, w_thr, w_thr0, w_thr1, y_thr0, y_thr1, b1_some, b2_some, bi_0, zgd_bi, zgd0, zgd1, Classical.not_not, uSc_1, uSt_1, uAm_1, uAr_1, tS_s, tS_st, y_isCell, y_inRange, bi_if, bi_30, y_isOver, y_isFr (t := uSc t 2 0) hB hN3, inF_n (show i < 2 ^ 31 by omega), hi, ha2, y_of9 (show i < 8 by omega), y_of13 (show i < 8 by omega), y_of14 (show i < 8 by omega), y_of15 (show i < 8 by omega), y_add13 (show i < 8 by omega), y_add14 (show i < 8 by omega), y_add15 (show i < 8 by omega), y_set9 (show i < 8 by omega), r_plan hB hi, r_worth hB hi, r_stat hB hi, r_bal hB hi, r_gen hB hi, r_over hB hi, r_con hB hi, r_gra hB hi, r_tst hB hi, r_two hB hi, r_tpr hB hi, r_tmo hB hi, r_tvo hB hi, r_tye hB hi, r_tno hB hi, uSt_1, uSc_1, uAm_1, uAr_1, va_app, uI_app, uL_app, uI_L, uL_I, uI_R, uL_R, uI_S, uL_S, Nat.add_left_cancel_iff, Nat.add_right_cancel_iff, Nat.reduceEqDiff, if_true, if_false, and_true, true_and, and_false, false_and, and_self, reduceIte, le_1, hb, ll_1, ev2, em2, hc2, hd, iy, iN, le_3, nb, hz]
      refine ⟨Rs_l (by first | rfl | decide), Po_fr hP hi (by repeat first | exact okT_rfl _ | exact ncst_fr (by omega) (by decide) | exact ncst_of (by omega) | apply okT_thr | apply okT_st | apply okT_ar | apply okT_am) (by first | exact gxw (gx_rfl _) (by decide) (by decide) | exact gxw (gx_ge1 (gx_rfl _)) (by decide) (by decide) | exact gxw (gx_gt1 (gx_rfl _)) (by decide) (by decide) | exact gxw (gx_ge1 (gx_gt1 (gx_rfl _))) (by decide) (by decide) | exact gxw (gx_gt1 (gx_gt1 (gx_rfl _))) (by decide) (by decide) | exact gxw (gx_ge1 (gx_gt1 (gx_gt1 (gx_rfl _)))) (by decide) (by decide) | exact gxw (gx_gt1 (gx_gt1 (gx_gt1 (gx_rfl _)))) (by decide) (by decide) | exact gxw (gx_ge1 (gx_gt1 (gx_gt1 (gx_gt1 (gx_rfl _))))) (by decide) (by decide) | exact gxw (gx_gt1 (gx_gt1 (gx_gt1 (gx_gt1 (gx_rfl _))))) (by decide) (by decide) | exact gxw (gx_ge1 (gx_gt1 (gx_gt1 (gx_gt1 (gx_gt1 (gx_rfl _)))))) (by decide) (by decide) | exact gxw (gx_gt1 (gx_gt1 (gx_gt1 (gx_gt1 (gx_gt1 (gx_rfl _)))))) (by decide) (by decide) | exact gxw (gx_ge1 (gx_gt1 (gx_gt1 (gx_gt1 (gx_gt1 (gx_gt1 (gx_rfl _))))))) (by decide) (by decide)) (fun y hy => by rw [uSt_1, cu_ne _ _ (by omega), cu_ne _ _ (by omega), cu_ne _ _ (by omega)]) rfl rfl (fun c h1 h2 => ⟨?_, rfl⟩) ?_ ?_⟩
      · rw [uI_row _ h2, uI_row _ h2, uI_row _ h2]
      · unfold frR
        simp (maxDischargeDepth := 12) only [uSt_1, uSc_1, uAm_1, uAr_1, va_app, uI_app, uL_app, uI_L, uL_I, uI_R, uL_R, uI_S, uL_S, Nat.add_left_cancel_iff, Nat.add_right_cancel_iff, Nat.reduceEqDiff, if_true, if_false, and_true, true_and, and_false, false_and, and_self, reduceIte, r_plan hB hi, r_worth hB hi, r_stat hB hi, r_bal hB hi, r_gen hB hi, r_over hB hi, r_con hB hi, r_gra hB hi, r_tst hB hi, r_two hB hi, r_tpr hB hi, r_tmo hB hi, r_tvo hB hi, r_tye hB hi, r_tno hB hi, ll_2, ll_3, ll_1, hb, ev, bb1]
      · unfold frI at hf ⊢
        obtain ⟨f1, f3, f4, f5, f6, f7, f9, f11, f12, f13, f14, f15, f16⟩ := hf
        have g14 := inc_b (by rw [r_tye hB hi] at f14; exact f14) qy
        have g15 := inc_b (by rw [r_tno hB hi] at f15; exact f15) qn
        simp (maxDischargeDepth := 12) only [uSt_1, uSc_1, uAm_1, uAr_1, va_app, uI_app, uL_app, uI_L, uL_I, uI_R, uL_R, uI_S, uL_S, Nat.add_left_cancel_iff, Nat.add_right_cancel_iff, Nat.reduceEqDiff, if_true, if_false, and_true, true_and, and_false, false_and, and_self, reduceIte]
        refine ⟨f1, f3, btw_w f4 (by omega) (by omega), f5, f6, f7, ?_, f11, f12, ⟨bb2, bb3⟩, ?_, ?_, ?_⟩
        · first
            | exact ⟨by decide, by decide⟩
            | exact f9
        · first
            | exact f14
            | exact g14.1
            | exact ⟨by decide, by decide⟩
        · first
            | exact f15
            | exact g15.1
            | exact ⟨by decide, by decide⟩
        · first
            | exact fun q => absurd q (by decide)
            | exact fun q => ⟨(f16 q).1, g15.2 hz⟩
            | exact fun q => ⟨g14.2 hz, (f16 q).2⟩
            | exact fun q => ⟨g14.2 (by assumption), (f16 q).2⟩
    · have nb := ne3 qn
      simp (maxDischargeDepth := 12) only [t_X6_vote_b51, t_X6_vote_b81, t_X6_vote_b158, t_X6_vote_b134, t_X6_vote_b106, t_X6_vote_b44, t_X6_vote_b19, t_X6_vote_b0, t_X6_vote, not_true_eq_false, not_false_eq_true, forall_const, false_implies, true_implies, and_true, true_and, and_self, i10, n10, true_or, or_true, false_or, or_false, false_and, and_false, w_bnd2, w_bind, w_some, w_ite, w_thr, w_thr0, w_thr1, y_thr0, y_thr1, b1_some, b2_some, bi_0, zgd_bi, zgd0, zgd1, Classical.not_not, uSc_1, uSt_1, uAm_1, uAr_1, tS_s, tS_st, y_isCell, y_inRange, bi_if, bi_30, y_isOver, y_isFr (t := uSc t 2 0) hB hN3, inF_n (show i < 2 ^ 31 by omega), hi, ha2, y_of9 (show i < 8 by omega), y_of13 (show i < 8 by omega), y_of14 (show i < 8 by omega), y_of15 (show i < 8 by omega), y_add13 (show i < 8 by omega), y_add14 (show i < 8 by omega), y_add15 (show i < 8 by omega), hb, r_plan hB hi, r_worth hB hi, r_stat hB hi, r_bal hB hi, r_gen hB hi, r_over hB hi, r_con hB hi, r_gra hB hi, r_tst hB hi, r_two hB hi, r_tpr hB hi, r_tmo hB hi, r_tvo hB hi, r_tye hB hi, r_tno hB hi, uSt_1, uSc_1, uAm_1, uAr_1, va_app, uI_app, uL_app, uI_L, uL_I, uI_R, uL_R, uI_S, uL_S, Nat.add_left_cancel_iff, Nat.add_right_cancel_iff, Nat.reduceEqDiff, if_true, if_false, and_true, true_and, and_false, false_and, and_self, reduceIte, le_1, hb, ll_1, ev2, em2, hc2, hd, iy, iN, le_3, nb, hz]
      refine ⟨Rs_l (by first | rfl | decide), Po_fr hP hi (by repeat first | exact okT_rfl _ | exact ncst_fr (by omega) (by decide) | exact ncst_of (by omega) | apply okT_thr | apply okT_st | apply okT_ar | apply okT_am) (by first | exact gxw (gx_rfl _) (by decide) (by decide) | exact gxw (gx_ge1 (gx_rfl _)) (by decide) (by decide) | exact gxw (gx_gt1 (gx_rfl _)) (by decide) (by decide) | exact gxw (gx_ge1 (gx_gt1 (gx_rfl _))) (by decide) (by decide) | exact gxw (gx_gt1 (gx_gt1 (gx_rfl _))) (by decide) (by decide) | exact gxw (gx_ge1 (gx_gt1 (gx_gt1 (gx_rfl _)))) (by decide) (by decide) | exact gxw (gx_gt1 (gx_gt1 (gx_gt1 (gx_rfl _)))) (by decide) (by decide) | exact gxw (gx_ge1 (gx_gt1 (gx_gt1 (gx_gt1 (gx_rfl _))))) (by decide) (by decide) | exact gxw (gx_gt1 (gx_gt1 (gx_gt1 (gx_gt1 (gx_rfl _))))) (by decide) (by decide) | exact gxw (gx_ge1 (gx_gt1 (gx_gt1 (gx_gt1 (gx_gt1 (gx_rfl _)))))) (by decide) (by decide) | exact gxw (gx_gt1 (gx_gt1 (gx_gt1 (gx_gt1 (gx_gt1 (gx_rfl _)))))) (by decide) (by decide) | exact gxw (gx_ge1 (gx_gt1 (gx_gt1 (gx_gt1 (gx_gt1 (gx_gt1 (gx_rfl _))))))) (by decide) (by decide)) (fun y hy => by rw [uSt_1, cu_ne _ _ (by omega), cu_ne _ _ (by omega)]) rfl rfl (fun c h1 h2 => ⟨?_, rfl⟩) ?_ ?_⟩
      · rw [uI_row _ h2, uI_row _ h2, uI_row _ h2]
      · unfold frR
        simp (maxDischargeDepth := 12) only [uSt_1, uSc_1, uAm_1, uAr_1, va_app, uI_app, uL_app, uI_L, uL_I, uI_R, uL_R, uI_S, uL_S, Nat.add_left_cancel_iff, Nat.add_right_cancel_iff, Nat.reduceEqDiff, if_true, if_false, and_true, true_and, and_false, false_and, and_self, reduceIte, r_plan hB hi, r_worth hB hi, r_stat hB hi, r_bal hB hi, r_gen hB hi, r_over hB hi, r_con hB hi, r_gra hB hi, r_tst hB hi, r_two hB hi, r_tpr hB hi, r_tmo hB hi, r_tvo hB hi, r_tye hB hi, r_tno hB hi, ll_2, ll_3, ll_1, hb, ev, bb1]
      · unfold frI at hf ⊢
        obtain ⟨f1, f3, f4, f5, f6, f7, f9, f11, f12, f13, f14, f15, f16⟩ := hf
        have g14 := inc_b (by rw [r_tye hB hi] at f14; exact f14) qy
        have g15 := inc_b (by rw [r_tno hB hi] at f15; exact f15) qn
        simp (maxDischargeDepth := 12) only [uSt_1, uSc_1, uAm_1, uAr_1, va_app, uI_app, uL_app, uI_L, uL_I, uI_R, uL_R, uI_S, uL_S, Nat.add_left_cancel_iff, Nat.add_right_cancel_iff, Nat.reduceEqDiff, if_true, if_false, and_true, true_and, and_false, false_and, and_self, reduceIte]
        refine ⟨f1, f3, btw_w f4 (by omega) (by omega), f5, f6, f7, ?_, f11, f12, ⟨bb2, bb3⟩, ?_, ?_, ?_⟩
        · first
            | exact ⟨by decide, by decide⟩
            | exact f9
        · first
            | exact f14
            | exact g14.1
            | exact ⟨by decide, by decide⟩
        · first
            | exact f15
            | exact g15.1
            | exact ⟨by decide, by decide⟩
        · first
            | exact fun q => absurd q (by decide)
            | exact fun q => ⟨(f16 q).1, g15.2 hz⟩
            | exact fun q => ⟨g14.2 hz, (f16 q).2⟩
            | exact fun q => ⟨g14.2 (by assumption), (f16 q).2⟩
  · simp (maxDischargeDepth := 12) only [t_X6_vote_b51, t_X6_vote_b81, t_X6_vote_b158, t_X6_vote_b134, t_X6_vote_b106, t_X6_vote_b44, t_X6_vote_b19, t_X6_vote_b0, t_X6_vote, not_true_eq_false, not_false_eq_true, forall_const, false_implies, true_implies, and_true, true_and, and_self, i10, n10, true_or, or_true, false_or, or_false, false_and, and_false, w_bnd2, w_bind, w_some, w_ite, w_thr, w_thr0, w_thr1, y_thr0, y_thr1, b1_some, b2_some, bi_0, zgd_bi, zgd0, zgd1, Classical.not_not, uSc_1, uSt_1, uAm_1, uAr_1, tS_s, tS_st, y_isCell, y_inRange, bi_if, bi_30, y_isOver, y_isFr (t := uSc t 2 0) hB hN3, inF_n (show i < 2 ^ 31 by omega), hi, ha, y_of9 (show i < 8 by omega), r_plan hB hi, r_worth hB hi, r_stat hB hi, r_bal hB hi, r_gen hB hi, r_over hB hi, r_con hB hi, r_gra hB hi, r_tst hB hi, r_two hB hi, r_tpr hB hi, r_tmo hB hi, r_tvo hB hi, r_tye hB hi, r_tno hB hi, le_1, hb]
    exact ⟨Rs_l rfl, (Po_ro hB hI rfl (okT_thr (okT_rfl t) _) (by first | exact gxw (gx_rfl _) (by decide) (by decide) | exact gxw (gx_ge1 (gx_rfl _)) (by decide) (by decide) | exact gxw (gx_gt1 (gx_rfl _)) (by decide) (by decide) | exact gxw (gx_ge1 (gx_gt1 (gx_rfl _))) (by decide) (by decide) | exact gxw (gx_gt1 (gx_gt1 (gx_rfl _))) (by decide) (by decide) | exact gxw (gx_ge1 (gx_gt1 (gx_gt1 (gx_rfl _)))) (by decide) (by decide) | exact gxw (gx_gt1 (gx_gt1 (gx_gt1 (gx_rfl _)))) (by decide) (by decide) | exact gxw (gx_ge1 (gx_gt1 (gx_gt1 (gx_gt1 (gx_rfl _))))) (by decide) (by decide) | exact gxw (gx_gt1 (gx_gt1 (gx_gt1 (gx_gt1 (gx_rfl _))))) (by decide) (by decide) | exact gxw (gx_ge1 (gx_gt1 (gx_gt1 (gx_gt1 (gx_gt1 (gx_rfl _)))))) (by decide) (by decide) | exact gxw (gx_gt1 (gx_gt1 (gx_gt1 (gx_gt1 (gx_gt1 (gx_rfl _)))))) (by decide) (by decide) | exact gxw (gx_ge1 (gx_gt1 (gx_gt1 (gx_gt1 (gx_gt1 (gx_gt1 (gx_rfl _))))))) (by decide) (by decide)))⟩
  · simp (maxDischargeDepth := 12) only [t_X6_vote_b51, t_X6_vote_b81, t_X6_vote_b158, t_X6_vote_b134, t_X6_vote_b106, t_X6_vote_b44, t_X6_vote_b19, t_X6_vote_b0, t_X6_vote, not_true_eq_false, not_false_eq_true, forall_const, false_implies, true_implies, and_true, true_and, and_self, i10, n10, true_or, or_true, false_or, or_false, false_and, and_false, w_bnd2, w_bind, w_some, w_ite, w_thr, w_thr0, w_thr1, y_thr0, y_thr1, b1_some, b2_some, bi_0, zgd_bi, zgd0, zgd1, Classical.not_not, uSc_1, uSt_1, uAm_1, uAr_1, tS_s, tS_st, y_isCell, y_inRange, bi_if, bi_30, y_isOver, y_isFr (t := uSc t 2 0) hB hN3, inF_n (show i < 2 ^ 31 by omega), hi, ha]
    exact ⟨Rs21, (Po_ro hB hI rfl (okT_thr (okT_thr (okT_rfl t) _) _) (by first | exact gxw (gx_rfl _) (by decide) (by decide) | exact gxw (gx_ge1 (gx_rfl _)) (by decide) (by decide) | exact gxw (gx_gt1 (gx_rfl _)) (by decide) (by decide) | exact gxw (gx_ge1 (gx_gt1 (gx_rfl _))) (by decide) (by decide) | exact gxw (gx_gt1 (gx_gt1 (gx_rfl _))) (by decide) (by decide) | exact gxw (gx_ge1 (gx_gt1 (gx_gt1 (gx_rfl _)))) (by decide) (by decide) | exact gxw (gx_gt1 (gx_gt1 (gx_gt1 (gx_rfl _)))) (by decide) (by decide) | exact gxw (gx_ge1 (gx_gt1 (gx_gt1 (gx_gt1 (gx_rfl _))))) (by decide) (by decide) | exact gxw (gx_gt1 (gx_gt1 (gx_gt1 (gx_gt1 (gx_rfl _))))) (by decide) (by decide) | exact gxw (gx_ge1 (gx_gt1 (gx_gt1 (gx_gt1 (gx_gt1 (gx_rfl _)))))) (by decide) (by decide) | exact gxw (gx_gt1 (gx_gt1 (gx_gt1 (gx_gt1 (gx_gt1 (gx_rfl _)))))) (by decide) (by decide) | exact gxw (gx_ge1 (gx_gt1 (gx_gt1 (gx_gt1 (gx_gt1 (gx_gt1 (gx_rfl _))))))) (by decide) (by decide)))⟩
  · simp (maxDischargeDepth := 12) only [t_X6_vote_b51, t_X6_vote_b81, t_X6_vote_b158, t_X6_vote_b134, t_X6_vote_b106, t_X6_vote_b44, t_X6_vote_b19, t_X6_vote_b0, t_X6_vote, not_true_eq_false, not_false_eq_true, forall_const, false_implies, true_implies, and_true, true_and, and_self, i10, n10, true_or, or_true, false_or, or_false, false_and, and_false, w_bnd2, w_bind, w_some, w_ite, w_thr, w_thr0, w_thr1, y_thr0, y_thr1, b1_some, b2_some, bi_0, zgd_bi, zgd0, zgd1, Classical.not_not, uSc_1, uSt_1, uAm_1, uAr_1, tS_s, tS_st, y_isCell, y_inRange, bi_if, bi_30, y_isOver, y_isFr (t := uSc t 2 0) hB hN3, hn]
    exact ⟨Rs20, (Po_ro hB hI rfl (okT_thr (okT_thr (okT_rfl t) _) _) (by first | exact gxw (gx_rfl _) (by decide) (by decide) | exact gxw (gx_ge1 (gx_rfl _)) (by decide) (by decide) | exact gxw (gx_gt1 (gx_rfl _)) (by decide) (by decide) | exact gxw (gx_ge1 (gx_gt1 (gx_rfl _))) (by decide) (by decide) | exact gxw (gx_gt1 (gx_gt1 (gx_rfl _))) (by decide) (by decide) | exact gxw (gx_ge1 (gx_gt1 (gx_gt1 (gx_rfl _)))) (by decide) (by decide) | exact gxw (gx_gt1 (gx_gt1 (gx_gt1 (gx_rfl _)))) (by decide) (by decide) | exact gxw (gx_ge1 (gx_gt1 (gx_gt1 (gx_gt1 (gx_rfl _))))) (by decide) (by decide) | exact gxw (gx_gt1 (gx_gt1 (gx_gt1 (gx_gt1 (gx_rfl _))))) (by decide) (by decide) | exact gxw (gx_ge1 (gx_gt1 (gx_gt1 (gx_gt1 (gx_gt1 (gx_rfl _)))))) (by decide) (by decide) | exact gxw (gx_gt1 (gx_gt1 (gx_gt1 (gx_gt1 (gx_gt1 (gx_rfl _)))))) (by decide) (by decide) | exact gxw (gx_ge1 (gx_gt1 (gx_gt1 (gx_gt1 (gx_gt1 (gx_gt1 (gx_rfl _))))))) (by decide) (by decide)))⟩
end PO
