/-! a franchisee is terminated: the twin, and both -/
set_option maxRecDepth 100000
def gonl (f : Int32) (x : Int64) : Int64 := if x = f.toInt64 then -1 else x
theorem gonl_i (f x : Int32) : gonl f x.toInt64 = (gone f x).toInt64 := by
  unfold gonl gone
  by_cases h : x = f
  · rw [if_pos (i32_64_inj.mpr h), if_pos h]; decide
  · rw [if_neg (fun e => h (i32_64_inj.mp e)), if_neg h]
theorem gone_b {f x : Int32} {nf : Nat} (h : btw x.toInt64 (-1) (nf - 1)) : btw (gone f x).toInt64 (-1) (nf - 1) := by
  unfold gone
  by_cases c : x = f
  · rw [if_pos c]
    have := h.1
    have := h.2
    exact ⟨by decide, by show (-1 : Int) ≤ _; omega⟩
  · rw [if_neg c]; exact h
theorem uSt_uSt (t : twS) (f g : Nat → Int64) : uSt (uSt t f) g = uSt t g := rfl
theorem uSt_id (t : twS) : uSt t t.1 = t := rfl
section LTT
variable {E : zE} {t : twS}
theorem y_cels {c : Nat} (hc : c < 900) (v : Int64) : tsL t 1 ((250 : Int32) + Int32.ofNat c) v = some (uSt t (va_up t.1 (250 + c) v)) := by
  show tsL t 1 (Int32.ofNat 250 + Int32.ofNat c) v = _
  rw [← Int32.ofNat_add, y_s (by omega)]
theorem y_tc (hE : 1000 ≤ E.1) (f : Int32) {Q : Int32 × twS → Prop} (k : ∀ τ : Nat → Int64, (∀ c, c < 900 → τ (250 + c) = gonl f (t.1 (250 + c))) → (∀ y, y < 250 ∨ 1150 ≤ y → τ y = t.1 y) → Ww (bnd2 (t_X6_isOpenTransfer E f (uSt t τ)) fun x5 s3_ => if x5 = 0 then t_X6_terminate_b168 E s3_ else bnd2 (t_X6_set E f (9 : Int32) (3 : Int64) s3_) fun x10 s8_ => t_X6_terminate_b168 E s8_) Q) : Ww (t_X6_terminate_l108 E E.1 f (0 : Int32) t) Q := by
  refine w_lp (L := fun m i τ => t_X6_terminate_l108 E m f i (uSt t τ)) (n := 900) (by decide) (Inv := fun j τ => (∀ c, c < j → τ (250 + c) = gonl f (t.1 (250 + c))) ∧ ∀ y, y < 250 ∨ 250 + j ≤ y → τ y = t.1 y) (fun m j τ hj ha kk => ?_) (fun m τ ha => ?_) 900 0 E.1 t.1 rfl (by omega) ⟨fun c hc => by omega, fun _ _ => rfl⟩
  · show Ww (t_X6_terminate_l108 E (m + 1) f (Int32.ofNat j) (uSt t τ)) _
    obtain ⟨a1, a2⟩ := ha
    unfold t_X6_terminate_l108 t_X6_terminate_b144
    rw [if_neg (le900 hj), y_cell hj, b1_some, uSt_1, a2 (250 + j) (by omega), i32_s]
    by_cases h : t.1 (250 + j) = f.toInt64
    · rw [if_pos h, y_cels hj, b1_some, uSt_1, uSt_uSt]
      refine kk _ ⟨fun c hc => ?_, fun y hy => (cu_ne _ _ (by omega)).trans (a2 y (by omega))⟩
      by_cases e : c = j
      · subst e
        rw [cu_same]
        unfold gonl
        rw [if_pos h]
      · rw [cu_ne _ _ (by omega)]
        exact a1 c (by omega)
    · rw [if_neg h]
      refine kk _ ⟨fun c hc => ?_, fun y hy => a2 y (by omega)⟩
      by_cases e : c = j
      · subst e
        rw [a2 _ (by omega)]
        unfold gonl
        rw [if_neg h]
      · exact a1 c (by omega)
  · show Ww (t_X6_terminate_l108 E (m + 1) f (Int32.ofNat 900) (uSt t τ)) _
    unfold t_X6_terminate_l108
    rw [if_pos re900]
    exact k τ ha.1 (fun y hy => ha.2 y (by omega))
theorem y_oo0s {i : Nat} (hi : i < 16) (v : Int64) : tsL t 1 ((186 : Int32) + (4 : Int32) * Int32.ofNat i + (0 : Int32)) v = some (uSt t (va_up t.1 (186 + 4 * i + 0) v)) := by
  show tsL t 1 (Int32.ofNat 186 + Int32.ofNat 4 * Int32.ofNat i + Int32.ofNat 0) v = _
  rw [← Int32.ofNat_mul, ← Int32.ofNat_add, ← Int32.ofNat_add, y_s (by omega)]
theorem y_tm (hE : 1000 ≤ E.1) (f : Int32) {no : Nat} (hN : no ≤ 16) (h3 : t.1 3 = Int64.ofNat no) {Q : Int32 × twS → Prop} (k : ∀ τ : Nat → Int64, (∀ q, q < no → τ (186 + 4 * q + 0) = gonl f (t.1 (186 + 4 * q + 0))) → (∀ c, c < 900 → τ (250 + c) = gonl f (t.1 (250 + c))) → (∀ y, (∀ q, q < no → y ≠ 186 + 4 * q + 0) → y < 250 ∨ 1150 ≤ y → τ y = t.1 y) → Ww (bnd2 (t_X6_isOpenTransfer E f (uSt t τ)) fun x5 s3_ => if x5 = 0 then t_X6_terminate_b168 E s3_ else bnd2 (t_X6_set E f (9 : Int32) (3 : Int64) s3_) fun x10 s8_ => t_X6_terminate_b168 E s8_) Q) : Ww (t_X6_terminate_l59 E E.1 f (0 : Int32) t) Q := by
  refine w_lp (L := fun m i τ => t_X6_terminate_l59 E m f i (uSt t τ)) (n := no) (by omega) (Inv := fun j τ => (∀ q, q < j → τ (186 + 4 * q + 0) = gonl f (t.1 (186 + 4 * q + 0))) ∧ ∀ y, (∀ q, q < j → y ≠ 186 + 4 * q + 0) → τ y = t.1 y) (fun m j τ hj ha kk => ?_) (fun m τ ha => ?_) no 0 E.1 t.1 (by omega) (by omega) ⟨fun c hc => by omega, fun _ _ => rfl⟩
  · show Ww (t_X6_terminate_l59 E (m + 1) f (Int32.ofNat j) (uSt t τ)) _
    obtain ⟨a1, a2⟩ := ha
    unfold t_X6_terminate_l59 t_X6_terminate_b100
    rw [y_d3, b1_some, uSt_1, a2 3 (fun q hq => by omega), h3, if_neg (i64_nle (by omega) hj), y_oo0 (by omega), b2_some, uSt_1, a2 (186 + 4 * j + 0) (fun q hq => by omega), i32_s]
    by_cases h : t.1 (186 + 4 * j + 0) = f.toInt64
    · rw [if_pos h, y_oo0s (by omega), b1_some, uSt_1, uSt_uSt]
      refine kk _ ⟨fun c hc => ?_, fun y hy => (cu_ne _ _ (hy j (by omega))).trans (a2 y (fun q hq => hy q (by omega)))⟩
      by_cases e : c = j
      · subst e
        rw [cu_same]
        unfold gonl
        rw [if_pos h]
      · rw [cu_ne _ _ (by omega)]
        exact a1 c (by omega)
    · rw [if_neg h]
      refine kk _ ⟨fun c hc => ?_, fun y hy => a2 y (fun q hq => hy q (by omega))⟩
      by_cases e : c = j
      · subst e
        rw [a2 _ (fun q hq => by omega)]
        unfold gonl
        rw [if_neg h]
      · exact a1 c (by omega)
  · show Ww (t_X6_terminate_l59 E (m + 1) f (Int32.ofNat no) (uSt t τ)) _
    obtain ⟨a1, a2⟩ := ha
    unfold t_X6_terminate_l59
    rw [y_d3, b1_some, uSt_1, a2 3 (fun q hq => by omega), h3, if_pos (i64_nre (by omega))]
    refine y_tc hE f (t := uSt t τ) fun τ2 b1 b2 => ?_
    rw [uSt_uSt]
    refine k τ2 (fun q hq => ?_) (fun c hc => ?_) (fun y hy h2 => ?_)
    · rw [b2 _ (by omega), uSt_1, a1 q hq]
    · rw [b1 c hc, uSt_1, a2 _ (fun q hq => by omega)]
    · rw [b2 y h2, uSt_1, a2 y hy]
end LTT
theorem okT_stf {t t1 : twS} (h : okT t t1) (τ : Nat → Int64) (hτ : ∀ x, 5054 ≤ x ∨ cst x → τ x = t1.1 x) : okT t (uSt t1 τ) := okT_tr h ⟨hτ, fun _ _ => rfl, fun _ _ => rfl, rfl⟩
theorem le_3i {x : Int32} : (3 : Int64) ≤ x.toInt64 ↔ 3 ≤ x := by rw [← ll_3, i32_64_le]
section OQ
variable {E : zE} {N : iN} {mo n : Nat} {s s1 : cT} {t t1 : twS} {g g1 : zH}
theorem o_terminate (h : Pr E N mo n s t g) (p1 : Int32) : Ww (c_X1_terminate E N p1 s g) fun z => Ww (t_X6_terminate E p1 t) fun w => Rs ec1 z.1 w.1 (tSc w.2 2) ∧ Po N mo n s t g z.2.1 w.2 z.2.2 := by
  have hP := h
  obtain ⟨hB, hI, hR, hJ, hE, hr, hS, hO, hS3, hS8, hnn, h200⟩ := h
  obtain ⟨h60, h8, h16, h4⟩ := hI.1
  have hE1 : 1000 ≤ E.1 := by omega
  have hN1 : N.2.1 < 1000 := by omega
  have hN2 : N.2.2.1 < 1000 := by omega
  have hN3 : N.2.1 < 2 ^ 31 := by omega
  have hN4 : N.2.2.2.1 < 2 ^ 31 := by omega
  have rB : ∀ k m, k ≤ 300 → m ≤ 3000 → rm g k m := fun k m a b => rm_le hr a b
  simp (maxDischargeDepth := 12) only [c_X1_terminate_b21, c_X1_terminate_b0, c_X1_terminate, w_bnd2, w_bind, w_some, w_ite, el_l, el_r, b1_some, b2_some, bi_if, bi_30, bi_0, zgd_bi, zgd0, zgd1, Classical.not_not, x_nA1, x_nA2, x_nA4, x_sI10, x_sI20, x_sI21, x_sI40, x_sI41, x_sI42, x_sI43, gb1, gb2, gb4, x_isP, x_isAm, x_isAc, x_isOp, x_isOT, rm_gt, rm_ge, rB, Nat.reduceAdd, Nat.reduceLeDiff, Nat.reduceLT, not_true_eq_false, not_false_eq_true, forall_const, false_implies, true_implies, and_true, true_and, and_self, i10, n10, true_or, or_true, false_or, or_false, false_and, and_false, w_rI hE1, w_rA hE1, w_fr hE1 hN1, w_ou hE1 hN2, x_isFr hN3, x_isPl hN4]
  refine ⟨fun i e hi => ⟨fun ha => ?_, fun ha => ⟨fun hb => ?_, fun hb => ?_⟩⟩, fun hn => ?_⟩
  all_goals try subst e
  · simp (maxDischargeDepth := 12) only [t_X6_terminate_b48, t_X6_terminate_b168, t_X6_terminate_b144, t_X6_terminate_b100, t_X6_terminate_b19, t_X6_terminate_b0, t_X6_terminate, not_true_eq_false, not_false_eq_true, forall_const, false_implies, true_implies, and_true, true_and, and_self, i10, n10, true_or, or_true, false_or, or_false, false_and, and_false, w_bnd2, w_bind, w_some, w_ite, w_thr, w_thr0, w_thr1, y_thr0, y_thr1, b1_some, b2_some, bi_0, zgd_bi, zgd0, zgd1, Classical.not_not, uSc_1, uSt_1, uAm_1, uAr_1, tS_s, tS_st, y_isCell, y_inRange, bi_if, bi_30, y_isOver, y_isFr (t := uSc t 2 0) hB hN3, inF_n (show i < 2 ^ 31 by omega), hi, y_isActive (show i < 8 by omega), r_plan hB hi, r_worth hB hi, r_stat hB hi, r_bal hB hi, r_gen hB hi, r_over hB hi, r_con hB hi, r_gra hB hi, r_tst hB hi, r_two hB hi, r_tpr hB hi, r_tmo hB hi, r_tvo hB hi, r_tye hB hi, r_tno hB hi, le_0, ha]
    exact ⟨Rs_l rfl, (Po_ro hB hI rfl (okT_thr (okT_rfl t) _) (by first | exact gxw (gx_rfl _) (by decide) (by decide) | exact gxw (gx_ge1 (gx_rfl _)) (by decide) (by decide) | exact gxw (gx_gt1 (gx_rfl _)) (by decide) (by decide) | exact gxw (gx_ge1 (gx_gt1 (gx_rfl _))) (by decide) (by decide) | exact gxw (gx_gt1 (gx_gt1 (gx_rfl _))) (by decide) (by decide) | exact gxw (gx_ge1 (gx_gt1 (gx_gt1 (gx_rfl _)))) (by decide) (by decide) | exact gxw (gx_gt1 (gx_gt1 (gx_gt1 (gx_rfl _)))) (by decide) (by decide) | exact gxw (gx_ge1 (gx_gt1 (gx_gt1 (gx_gt1 (gx_rfl _))))) (by decide) (by decide) | exact gxw (gx_gt1 (gx_gt1 (gx_gt1 (gx_gt1 (gx_rfl _))))) (by decide) (by decide) | exact gxw (gx_ge1 (gx_gt1 (gx_gt1 (gx_gt1 (gx_gt1 (gx_rfl _)))))) (by decide) (by decide) | exact gxw (gx_gt1 (gx_gt1 (gx_gt1 (gx_gt1 (gx_gt1 (gx_rfl _)))))) (by decide) (by decide) | exact gxw (gx_ge1 (gx_gt1 (gx_gt1 (gx_gt1 (gx_gt1 (gx_gt1 (gx_rfl _))))))) (by decide) (by decide)))⟩
  · have hi8 : i < 8 := by omega
    unfold c_X4_terminate c_X4_terminate_b0
    rw [cGet_of hi (by omega), b1_some, x_isOT, b2_some]
    have ne1 : N.1 + 140 + i ≠ N.1 + 130 + i := by omega
    rw [uI_row _ ne1]
    have core : ∀ sA : cT, (sA = uI s (N.1 + 130 + i) 5 1 ∧ ¬ (s.2.1 (N.1 + 140 + i) 0 = 1 ∨ s.2.1 (N.1 + 140 + i) 0 = 2) ∨ sA = uI (uI s (N.1 + 130 + i) 5 1) (N.1 + 140 + i) 0 3 ∧ (s.2.1 (N.1 + 140 + i) 0 = 1 ∨ s.2.1 (N.1 + 140 + i) 0 = 2)) → Ww (c_X4_terminate_b37 E N (Int32.ofNat i) sA (gt g 1 (va_up (fun _ => 0) 0 1))) fun z => Ww (t_X6_terminate E (Int32.ofNat i) t) fun w => Rs ec1 (.inl 1) w.1 (tSc w.2 2) ∧ Po N mo n s t g z.2.1 w.2 z.2.2 := fun sA hA => by
      refine w_mono (x_tm hE1 h16 (Int32.ofNat i)) fun z hz => ?_
      obtain ⟨s3, ez, b1, b2, b3, b4, b5⟩ := hz
      subst ez
      have A1 : sA.1 = s.1 := by rcases hA with ⟨rfl, _⟩ | ⟨rfl, _⟩ <;> rfl
      have A2 : sA.2.2 = s.2.2 := by rcases hA with ⟨rfl, _⟩ | ⟨rfl, _⟩ <;> rfl
      have A3 : ∀ c, c ≠ N.1 + 130 + i → c ≠ N.1 + 140 + i → sA.2.1 c = s.2.1 c := fun c h1 h2 => by
        rcases hA with ⟨rfl, _⟩ | ⟨rfl, _⟩
        · exact uI_row _ h1 _ _
        · exact (uI_row _ h2 _ _).trans (uI_row _ h1 _ _)
      simp (maxDischargeDepth := 12) only [t_X6_terminate_b48, t_X6_terminate_b168, t_X6_terminate_b144, t_X6_terminate_b100, t_X6_terminate_b19, t_X6_terminate_b0, t_X6_terminate, w_bnd2, w_bind, w_some, w_ite, w_thr, w_thr0, w_thr1, y_thr0, y_thr1, bi_0, zgd_bi, not_true_eq_false, not_false_eq_true, forall_const, false_implies, true_implies, and_true, true_and, and_self, i10, n10, true_or, or_true, false_or, or_false, false_and, and_false, Classical.not_not, uSc_1, uSt_1, tS_s, tS_st, y_isFr (t := uSc t 2 0) hB hN3, inF_n (show i < 2 ^ 31 by omega), hi, y_isActive hi8, r_plan hB hi, r_worth hB hi, r_stat hB hi, r_bal hB hi, r_gen hB hi, r_over hB hi, r_con hB hi, r_gra hB hi, r_tst hB hi, r_two hB hi, r_tpr hB hi, r_tmo hB hi, r_tvo hB hi, r_tye hB hi, r_tno hB hi, le_0, ha, y_of6 hi8, le_3i, hb, y_set3 hi8]
      refine y_tm hE1 (Int32.ofNat i) (t := uSt (uSc t 2 0) (va_up t.1 (58 + 16 * i + 3) 1)) (no := N.2.2.1) h16 (by rw [uSt_1, cu_ne _ _ (by omega), r_no hB]) fun τ t1 t2 t3 => ?_
      rw [uSt_uSt]
      rw [uSt_1] at t1 t2 t3
      have f0 : ∀ x, x < 16 → x ≠ 3 → τ (58 + 16 * i + x) = t.1 (58 + 16 * i + x) := fun x hx h3 => by rw [t3 _ (fun q hq => by omega) (by omega), cu_ne _ _ (by omega)]
      have f3 : τ (58 + 16 * i + 3) = 1 := by rw [t3 _ (fun q hq => by omega) (by omega), cu_same]
      have fo : ∀ y, y < 58 + 16 * i ∨ 74 + 16 * i ≤ y ∧ y < 186 ∨ 1150 ≤ y → τ y = t.1 y := fun y hy => by rw [t3 _ (fun q hq => by omega) (by omega), cu_ne _ _ (by omega)]
      have hO2 : ∀ k, k < N.2.2.1 → s3.2.1 (N.1 + 170 + k) 0 = s.2.1 (N.1 + 170 + k) 0 ∧ τ (186 + 4 * k + 0) = (s3.2.1 (N.1 + 170 + k) 1).toInt64 ∧ ∀ x, 1 ≤ x → x < 4 → τ (186 + 4 * k + x) = t.1 (186 + 4 * k + x) := fun k hk => by
        refine ⟨?_, ?_, fun x h1 h2 => ?_⟩
        · rw [(b4 k hk).2, A3 _ (by omega) (by omega)]
        · rw [t1 k hk, cu_ne _ _ (by omega), r_own hB hk, gonl_i, (b4 k hk).1, A3 _ (by omega) (by omega)]
        · rw [t3 _ (fun q hq => by omega) (by omega), cu_ne _ _ (by omega)]
      have hC2 : ∀ c, c < 900 → τ (250 + c) = (s3.2.1 (N.1 + 16) c).toInt64 := fun c hc => by
        rw [t2 c hc, cu_ne _ _ (by omega), r_cel hB hc, gonl_i, b5 c hc, A3 _ (by omega) (by omega)]
      have hO3 : ∀ k, k < N.2.2.1 → btw (τ (186 + 4 * k + 0)) (-1) (N.2.1 - 1) ∧ τ (186 + 4 * k + 3) = t.1 (186 + 4 * k + 3) := fun k hk => ⟨by
        rw [(hO2 k hk).2.1, (b4 k hk).1, A3 _ (by omega) (by omega)]
        have := (hI.2.2.1 k hk).1
        rw [r_own hB hk] at this
        exact gone_b this, (hO2 k hk).2.2 3 (by decide) (by decide)⟩
      have hC3 : ∀ c, c < 900 → btw (τ (250 + c)) (-1) (N.2.1 - 1) := fun c hc => by
        rw [hC2 c hc, b5 c hc, A3 _ (by omega) (by omega)]
        have := hI.2.2.2.1 c hc
        rw [r_cel hB hc] at this
        exact gone_b this
      have hS2 : ∀ c, c ≠ N.1 + 130 + i → c ≠ N.1 + 140 + i → c ≠ N.1 + 16 → (∀ k, k < N.2.2.1 → c ≠ N.1 + 170 + k) → s3.2.1 c = s.2.1 c := fun c h1 h2 h3 h4 => (b3 c h3 h4).trans (A3 c h1 h2)
      have cA : s3.2.1 (N.1 + 130 + i) = sA.2.1 (N.1 + 130 + i) := b3 _ (by omega) (fun k hk => by omega)
      have cB : s3.2.1 (N.1 + 140 + i) = sA.2.1 (N.1 + 140 + i) := b3 _ (by omega) (fun k hk => by omega)
      have cL : s3.2.2.1 = s.2.2.1 := by rw [b2, A2]
      have hokS : okS N s s3 := ⟨b1.trans A1, by rw [b2, A2], fun c hc _ => ⟨hS2 c (by omega) (by omega) (by omega) (fun k hk => by omega), by rw [cL]⟩⟩
      have hokT : okT t (uSt (uSc t 2 0) τ) := okT_stf (okT_thr (okT_rfl t) _) τ (fun x hx => by
        rw [uSc_1]
        rcases hx with hx | hx | hx | ⟨j, hj, hx⟩
        · exact fo x (by omega)
        · exact fo x (by omega)
        · exact fo x (by omega)
        · by_cases e : j = i
          · subst e; rw [hx]; exact f0 0 (by decide) (by decide)
          · exact fo x (by omega))
      have hf := hI.2.1 i hi
      rw [y_isOpT hi8, b2_some, uSt_1, f0 9 (by decide) (by decide), r_tst hB hi, bi_c (or_congr le_1 le_2)]
      rcases hA with ⟨eA, hno⟩ | ⟨eA, hyes⟩
      · rw [if_pos (bi_f hno)]
        unfold t_X6_terminate_b168
        rw [w_some]
        refine ⟨Rs_l rfl, RB_tm hB ⟨h8, h16⟩ hi (b1.trans A1) (b2.trans A2) hS2 ?_ hO2 hC2 fo, IV_tm hI hi (Nat.le_succ n) ?_ hO3 hC3 fo, hokS, hokT, (by first | exact gxw (gx_rfl _) (by decide) (by decide) | exact gxw (gx_ge1 (gx_rfl _)) (by decide) (by decide) | exact gxw (gx_gt1 (gx_rfl _)) (by decide) (by decide) | exact gxw (gx_ge1 (gx_gt1 (gx_rfl _))) (by decide) (by decide) | exact gxw (gx_gt1 (gx_gt1 (gx_rfl _))) (by decide) (by decide) | exact gxw (gx_ge1 (gx_gt1 (gx_gt1 (gx_rfl _)))) (by decide) (by decide) | exact gxw (gx_gt1 (gx_gt1 (gx_gt1 (gx_rfl _)))) (by decide) (by decide) | exact gxw (gx_ge1 (gx_gt1 (gx_gt1 (gx_gt1 (gx_rfl _))))) (by decide) (by decide) | exact gxw (gx_gt1 (gx_gt1 (gx_gt1 (gx_gt1 (gx_rfl _))))) (by decide) (by decide) | exact gxw (gx_ge1 (gx_gt1 (gx_gt1 (gx_gt1 (gx_gt1 (gx_rfl _)))))) (by decide) (by decide) | exact gxw (gx_gt1 (gx_gt1 (gx_gt1 (gx_gt1 (gx_gt1 (gx_rfl _)))))) (by decide) (by decide) | exact gxw (gx_ge1 (gx_gt1 (gx_gt1 (gx_gt1 (gx_gt1 (gx_gt1 (gx_rfl _))))))) (by decide) (by decide))⟩
        · unfold frR
          rw [cA, cB, cL, eA, uSt_1, f3, f0 1 (by decide) (by decide), f0 2 (by decide) (by decide), f0 4 (by decide) (by decide), f0 5 (by decide) (by decide), f0 6 (by decide) (by decide), f0 7 (by decide) (by decide), f0 8 (by decide) (by decide), f0 9 (by decide) (by decide), f0 10 (by decide) (by decide), f0 11 (by decide) (by decide), f0 12 (by decide) (by decide), f0 13 (by decide) (by decide), f0 14 (by decide) (by decide), f0 15 (by decide) (by decide)]
          simp (maxDischargeDepth := 12) only [uSt_1, uSc_1, uAm_1, uAr_1, va_app, uI_app, uL_app, uI_L, uL_I, uI_R, uL_R, uI_S, uL_S, Nat.add_left_cancel_iff, Nat.add_right_cancel_iff, Nat.reduceEqDiff, if_true, if_false, and_true, true_and, and_false, false_and, and_self, reduceIte, r_plan hB hi, r_worth hB hi, r_stat hB hi, r_bal hB hi, r_gen hB hi, r_over hB hi, r_con hB hi, r_gra hB hi, r_tst hB hi, r_two hB hi, r_tpr hB hi, r_tmo hB hi, r_tvo hB hi, r_tye hB hi, r_tno hB hi, ll_1]
        · unfold frI at hf ⊢
          rw [uSt_1, f3, f0 1 (by decide) (by decide), f0 4 (by decide) (by decide), f0 5 (by decide) (by decide), f0 6 (by decide) (by decide), f0 7 (by decide) (by decide), f0 9 (by decide) (by decide), f0 11 (by decide) (by decide), f0 12 (by decide) (by decide), f0 13 (by decide) (by decide), f0 14 (by decide) (by decide), f0 15 (by decide) (by decide)]
          exact ⟨hf.1, ⟨by decide, by decide⟩, btw_w hf.2.2.1 (by omega) (by omega), hf.2.2.2⟩
      · rw [if_neg (by rw [bi_t hyes]; decide), y_set9 hi8, b2_some]
        unfold t_X6_terminate_b168
        rw [w_some, uSt_1, uSt_uSt]
        have g0 : ∀ x, x < 16 → x ≠ 3 → x ≠ 9 → va_up τ (58 + 16 * i + 9) 3 (58 + 16 * i + x) = t.1 (58 + 16 * i + x) := fun x hx h3 h9 => by rw [cu_ne _ _ (by omega), f0 x hx h3]
        have g3 : va_up τ (58 + 16 * i + 9) 3 (58 + 16 * i + 3) = 1 := by rw [cu_ne _ _ (by omega), f3]
        have gw : ∀ y, y < 58 + 16 * i ∨ 74 + 16 * i ≤ y → va_up τ (58 + 16 * i + 9) 3 y = τ y := fun y hy => cu_ne _ _ (by omega)
        have go : ∀ y, y < 58 + 16 * i ∨ 74 + 16 * i ≤ y ∧ y < 186 ∨ 1150 ≤ y → va_up τ (58 + 16 * i + 9) 3 y = t.1 y := fun y hy => (gw y (by omega)).trans (fo y hy)
        refine ⟨Rs_l rfl, RB_tm hB ⟨h8, h16⟩ hi (b1.trans A1) (b2.trans A2) hS2 ?_ (fun k hk => ⟨(hO2 k hk).1, (gw _ (by omega)).trans (hO2 k hk).2.1, fun x h1 h2 => (gw _ (by omega)).trans ((hO2 k hk).2.2 x h1 h2)⟩) (fun c hc => (gw _ (by omega)).trans (hC2 c hc)) go, IV_tm hI hi (Nat.le_succ n) ?_ (fun k hk => ⟨by rw [uSt_1, gw _ (by omega)]; exact (hO3 k hk).1, (gw _ (by omega)).trans (hO3 k hk).2⟩) (fun c hc => by rw [uSt_1, gw _ (by omega)]; exact hC3 c hc) go, hokS, okT_st (t1 := uSt (uSc t 2 0) τ) hokT (ncst_fr hi8 (by decide)) 3, (by first | exact gxw (gx_rfl _) (by decide) (by decide) | exact gxw (gx_ge1 (gx_rfl _)) (by decide) (by decide) | exact gxw (gx_gt1 (gx_rfl _)) (by decide) (by decide) | exact gxw (gx_ge1 (gx_gt1 (gx_rfl _))) (by decide) (by decide) | exact gxw (gx_gt1 (gx_gt1 (gx_rfl _))) (by decide) (by decide) | exact gxw (gx_ge1 (gx_gt1 (gx_gt1 (gx_rfl _)))) (by decide) (by decide) | exact gxw (gx_gt1 (gx_gt1 (gx_gt1 (gx_rfl _)))) (by decide) (by decide) | exact gxw (gx_ge1 (gx_gt1 (gx_gt1 (gx_gt1 (gx_rfl _))))) (by decide) (by decide) | exact gxw (gx_gt1 (gx_gt1 (gx_gt1 (gx_gt1 (gx_rfl _))))) (by decide) (by decide) | exact gxw (gx_ge1 (gx_gt1 (gx_gt1 (gx_gt1 (gx_gt1 (gx_rfl _)))))) (by decide) (by decide) | exact gxw (gx_gt1 (gx_gt1 (gx_gt1 (gx_gt1 (gx_gt1 (gx_rfl _)))))) (by decide) (by decide) | exact gxw (gx_ge1 (gx_gt1 (gx_gt1 (gx_gt1 (gx_gt1 (gx_gt1 (gx_rfl _))))))) (by decide) (by decide))⟩
        · unfold frR
          rw [cA, cB, cL, eA, uSt_1, g3, cu_same, g0 1 (by decide) (by decide) (by decide), g0 2 (by decide) (by decide) (by decide), g0 4 (by decide) (by decide) (by decide), g0 5 (by decide) (by decide) (by decide), g0 6 (by decide) (by decide) (by decide), g0 7 (by decide) (by decide) (by decide), g0 8 (by decide) (by decide) (by decide), g0 10 (by decide) (by decide) (by decide), g0 11 (by decide) (by decide) (by decide), g0 12 (by decide) (by decide) (by decide), g0 13 (by decide) (by decide) (by decide), g0 14 (by decide) (by decide) (by decide), g0 15 (by decide) (by decide) (by decide)]
          simp (maxDischargeDepth := 12) only [uSt_1, uSc_1, uAm_1, uAr_1, va_app, uI_app, uL_app, uI_L, uL_I, uI_R, uL_R, uI_S, uL_S, Nat.add_left_cancel_iff, Nat.add_right_cancel_iff, Nat.reduceEqDiff, if_true, if_false, and_true, true_and, and_false, false_and, and_self, reduceIte, r_plan hB hi, r_worth hB hi, r_stat hB hi, r_bal hB hi, r_gen hB hi, r_over hB hi, r_con hB hi, r_gra hB hi, r_tst hB hi, r_two hB hi, r_tpr hB hi, r_tmo hB hi, r_tvo hB hi, r_tye hB hi, r_tno hB hi, ll_1, ll_3]
        · unfold frI at hf ⊢
          rw [uSt_1, g3, cu_same, g0 1 (by decide) (by decide) (by decide), g0 4 (by decide) (by decide) (by decide), g0 5 (by decide) (by decide) (by decide), g0 6 (by decide) (by decide) (by decide), g0 7 (by decide) (by decide) (by decide), g0 11 (by decide) (by decide) (by decide), g0 12 (by decide) (by decide) (by decide), g0 13 (by decide) (by decide) (by decide), g0 14 (by decide) (by decide) (by decide), g0 15 (by decide) (by decide) (by decide)]
          obtain ⟨q1, q3, q4, q5, q6, q7, q9, q11, q12, q13, q14, q15, q16⟩ := hf
          exact ⟨q1, ⟨by decide, by decide⟩, btw_w q4 (by omega) (by omega), q5, q6, q7, ⟨by decide, by decide⟩, q11, q12, q13, q14, q15, fun e => absurd e (by decide)⟩
    by_cases c : s.2.1 (N.1 + 140 + i) 0 = 1 ∨ s.2.1 (N.1 + 140 + i) 0 = 2
    · rw [if_neg (by rw [bi_t c]; decide)]
      exact core _ (Or.inr ⟨rfl, c⟩)
    · rw [if_pos (bi_f c)]
      exact core _ (Or.inl ⟨rfl, c⟩)
  · simp (maxDischargeDepth := 12) only [t_X6_terminate_b48, t_X6_terminate_b168, t_X6_terminate_b144, t_X6_terminate_b100, t_X6_terminate_b19, t_X6_terminate_b0, t_X6_terminate, not_true_eq_false, not_false_eq_true, forall_const, false_implies, true_implies, and_true, true_and, and_self, i10, n10, true_or, or_true, false_or, or_false, false_and, and_false, w_bnd2, w_bind, w_some, w_ite, w_thr, w_thr0, w_thr1, y_thr0, y_thr1, b1_some, b2_some, bi_0, zgd_bi, zgd0, zgd1, Classical.not_not, uSc_1, uSt_1, uAm_1, uAr_1, tS_s, tS_st, y_isCell, y_inRange, bi_if, bi_30, y_isOver, y_isFr (t := uSc t 2 0) hB hN3, inF_n (show i < 2 ^ 31 by omega), hi, y_isActive (show i < 8 by omega), r_plan hB hi, r_worth hB hi, r_stat hB hi, r_bal hB hi, r_gen hB hi, r_over hB hi, r_con hB hi, r_gra hB hi, r_tst hB hi, r_two hB hi, r_tpr hB hi, r_tmo hB hi, r_tvo hB hi, r_tye hB hi, r_tno hB hi, le_0, ha, y_of6 (show i < 8 by omega), le_3i, hb]
    exact ⟨Rs_l rfl, (Po_ro hB hI rfl (okT_thr (okT_rfl t) _) (by first | exact gxw (gx_rfl _) (by decide) (by decide) | exact gxw (gx_ge1 (gx_rfl _)) (by decide) (by decide) | exact gxw (gx_gt1 (gx_rfl _)) (by decide) (by decide) | exact gxw (gx_ge1 (gx_gt1 (gx_rfl _))) (by decide) (by decide) | exact gxw (gx_gt1 (gx_gt1 (gx_rfl _))) (by decide) (by decide) | exact gxw (gx_ge1 (gx_gt1 (gx_gt1 (gx_rfl _)))) (by decide) (by decide) | exact gxw (gx_gt1 (gx_gt1 (gx_gt1 (gx_rfl _)))) (by decide) (by decide) | exact gxw (gx_ge1 (gx_gt1 (gx_gt1 (gx_gt1 (gx_rfl _))))) (by decide) (by decide) | exact gxw (gx_gt1 (gx_gt1 (gx_gt1 (gx_gt1 (gx_rfl _))))) (by decide) (by decide) | exact gxw (gx_ge1 (gx_gt1 (gx_gt1 (gx_gt1 (gx_gt1 (gx_rfl _)))))) (by decide) (by decide) | exact gxw (gx_gt1 (gx_gt1 (gx_gt1 (gx_gt1 (gx_gt1 (gx_rfl _)))))) (by decide) (by decide) | exact gxw (gx_ge1 (gx_gt1 (gx_gt1 (gx_gt1 (gx_gt1 (gx_gt1 (gx_rfl _))))))) (by decide) (by decide)))⟩
  · simp (maxDischargeDepth := 12) only [t_X6_terminate_b48, t_X6_terminate_b168, t_X6_terminate_b144, t_X6_terminate_b100, t_X6_terminate_b19, t_X6_terminate_b0, t_X6_terminate, not_true_eq_false, not_false_eq_true, forall_const, false_implies, true_implies, and_true, true_and, and_self, i10, n10, true_or, or_true, false_or, or_false, false_and, and_false, w_bnd2, w_bind, w_some, w_ite, w_thr, w_thr0, w_thr1, y_thr0, y_thr1, b1_some, b2_some, bi_0, zgd_bi, zgd0, zgd1, Classical.not_not, uSc_1, uSt_1, uAm_1, uAr_1, tS_s, tS_st, y_isCell, y_inRange, bi_if, bi_30, y_isOver, y_isFr (t := uSc t 2 0) hB hN3, hn]
    exact ⟨Rs20, (Po_ro hB hI rfl (okT_thr (okT_thr (okT_rfl t) _) _) (by first | exact gxw (gx_rfl _) (by decide) (by decide) | exact gxw (gx_ge1 (gx_rfl _)) (by decide) (by decide) | exact gxw (gx_gt1 (gx_rfl _)) (by decide) (by decide) | exact gxw (gx_ge1 (gx_gt1 (gx_rfl _))) (by decide) (by decide) | exact gxw (gx_gt1 (gx_gt1 (gx_rfl _))) (by decide) (by decide) | exact gxw (gx_ge1 (gx_gt1 (gx_gt1 (gx_rfl _)))) (by decide) (by decide) | exact gxw (gx_gt1 (gx_gt1 (gx_gt1 (gx_rfl _)))) (by decide) (by decide) | exact gxw (gx_ge1 (gx_gt1 (gx_gt1 (gx_gt1 (gx_rfl _))))) (by decide) (by decide) | exact gxw (gx_gt1 (gx_gt1 (gx_gt1 (gx_gt1 (gx_rfl _))))) (by decide) (by decide) | exact gxw (gx_ge1 (gx_gt1 (gx_gt1 (gx_gt1 (gx_gt1 (gx_rfl _)))))) (by decide) (by decide) | exact gxw (gx_gt1 (gx_gt1 (gx_gt1 (gx_gt1 (gx_gt1 (gx_rfl _)))))) (by decide) (by decide) | exact gxw (gx_ge1 (gx_gt1 (gx_gt1 (gx_gt1 (gx_gt1 (gx_gt1 (gx_rfl _))))))) (by decide) (by decide)))⟩
end OQ
