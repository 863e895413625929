/-! cells written; connected; the halving line -/
set_option maxRecDepth 100000
section WC
variable {s s1 : cT} {o nf no mo : Nat} {t t1 : Nat → Int64}
/-- cells are written (and what only a search uses) -/
theorem RB_ce (h : RB s o nf no mo t) (hb : nf ≤ 8 ∧ no ≤ 16 ∧ 200 ≤ o) (ht : ∀ y, y < 250 ∨ 1150 ≤ y → t1 y = t y) (h0 : s1.1 = s.1) (hLR : s1.2.2 = s.2.2) (hs : ∀ c, c ≠ o + 16 → c ≠ o + 17 → c ≠ o + 18 → c ≠ 22 → s1.2.1 c = s.2.1 c) (hc : ∀ c, c < 900 → t1 (250 + c) = (s1.2.1 (o + 16) c).toInt64) : RB s1 o nf no mo t1 := by
  obtain ⟨⟨a1, a2, a3, a4⟩, hF, hO, hC, hS, hD, hRe, hI⟩ := h
  have hL : s1.2.2.1 = s.2.2.1 := by rw [hLR]
  have hR : s1.2.2.2 = s.2.2.2 := by rw [hLR]
  have h2 : ∀ c, c ≠ o + 16 → c ≠ o + 17 → c ≠ o + 18 → c ≠ 22 → s1.2.1 c = s.2.1 c ∧ s1.2.2.1 c = s.2.2.1 c := fun c q1 q2 q3 q4 => ⟨hs c q1 q2 q3 q4, by rw [hL]⟩
  refine ⟨⟨by rw [ht 0 (by omega)]; exact a1, by rw [(h2 (o + 10) (by omega) (by omega) (by omega) (by omega)).1]; exact a2, by rw [ht 2 (by omega)]; exact a3, by rw [ht 3 (by omega)]; exact a4⟩, fun j hj => frR_cg (hF j hj) (h2 _ (by omega) (by omega) (by omega) (by omega)) (h2 _ (by omega) (by omega) (by omega) (by omega)) (fun x hx => ht _ (by omega)), fun k hk => ouR_cg (hO k hk) (h2 _ (by omega) (by omega) (by omega) (by omega)) (fun x hx => ht _ (by omega)), hc, fun k hk => ?_, fun f hf g hg => ?_, fun f hf m hm => ?_, fun f hf m hm => ?_⟩
  · rw [ht _ (by omega), hL]; exact hS k hk
  · rw [ht _ (by omega), hL]; exact hD f hf g hg
  · rw [ht _ (by omega), hL]; exact hRe f hf m hm
  · obtain ⟨e, e1, e2, e3⟩ := hI f hf m hm
    refine ⟨e, by rw [hR]; exact e1, by rw [h0]; exact e2, fun q hq => ?_⟩
    rw [ht _ (by omega), hL]
    exact e3 q hq
theorem IV_ce {np n n1 : Nat} (h : IV t nf no np mo n) (ht : ∀ y, y < 250 ∨ 1150 ≤ y → t1 y = t y) (hn : n ≤ n1) (hc : ∀ c, c < 900 → btw (t1 (250 + c)) (-1) (nf - 1)) : IV t1 nf no np mo n1 := by
  obtain ⟨⟨a1, a2, a3, a4⟩, hF, hO, hC, hR, hD⟩ := h
  refine ⟨⟨a1, a2, a3, a4⟩, fun j hj => frI_cg (frI_n (hF j hj) hn) (fun x hx => ht _ (by omega)), fun k hk => ?_, hc, fun f hf m hm => ?_, fun f hf g hg hz => ?_⟩
  · rw [ht _ (by omega), ht _ (by omega)]; exact hO k hk
  · rw [ht _ (by omega)]
    refine ⟨(hR f hf m hm).1, fun q hq => ?_⟩
    rw [ht _ (by omega)]
    exact (hR f hf m hm).2 q hq
  · rw [ht _ (by omega)]; exact hD f hf g hg hz
end WC
theorem CN_cg {s s1 : cT} {o : Nat} (h : s1.2.1 (o + 16) = s.2.1 (o + 16)) (f : Int32) : CN s1 o f = CN s o f := by
  unfold CN fst9 ownd
  rw [h]
section OQ
variable {E : zE} {N : iN} {mo n : Nat} {s s1 : cT} {t t1 : twS} {g g1 : zH}
theorem o_isConnected (h : Pr E N mo n s t g) (p1 : Int32) : Ww (c_X1_isConnected E N p1 s g) fun z => Ww (t_X6_isConnected E p1 t) fun w => Rs ec1 z.1 w.1 (tSc w.2 2) ∧ Po N mo n s t g z.2.1 w.2 z.2.2 := by
  obtain ⟨hB, hI, hR, hJ, hE, hr, hS, hO, hS3, hS8, hnn, h200⟩ := h
  obtain ⟨h60, h8, h16, h4⟩ := hI.1
  have hE1 : 1000 ≤ E.1 := by omega
  have hN1 : N.2.1 < 1000 := by omega
  have hN2 : N.2.2.1 < 1000 := by omega
  have hN3 : N.2.1 < 2 ^ 31 := by omega
  have hN4 : N.2.2.2.1 < 2 ^ 31 := by omega
  have rB : ∀ k m, k ≤ 300 → m ≤ 3000 → rm g k m := fun k m a b => rm_le hr a b
  simp (maxDischargeDepth := 12) only [c_X1_isConnected_b0, c_X1_isConnected, w_bnd2, w_bind, w_some, w_ite, el_l, el_r, b1_some, b2_some, bi_if, bi_30, bi_0, zgd_bi, zgd0, zgd1, Classical.not_not, x_nA1, x_nA2, x_nA4, x_sI10, x_sI20, x_sI21, x_sI40, x_sI41, x_sI42, x_sI43, gb1, gb2, gb4, x_isP, x_isAm, x_isAc, x_isOp, x_isOT, rm_gt, rm_ge, rB, Nat.reduceAdd, Nat.reduceLeDiff, Nat.reduceLT, not_true_eq_false, not_false_eq_true, forall_const, false_implies, true_implies, and_true, true_and, and_self, i10, n10, true_or, or_true, false_or, or_false, false_and, and_false, w_rI hE1, w_rA hE1, w_fr hE1 hN1, w_ou hE1 hN2, x_isFr hN3, x_isPl hN4]
  refine ⟨fun ha => ?_, fun ha => ?_⟩
  · refine w_mono (x_CN hE1 p1) fun z hz => ?_
    obtain ⟨s2, ez, hq⟩ := hz
    subst ez
    simp (maxDischargeDepth := 12) only [w_bnd2, w_bind, w_some, w_ite, el_l, el_r, b1_some, b2_some, bi_if, bi_30, bi_0, zgd_bi, zgd0, zgd1, Classical.not_not, x_nA1, x_nA2, x_nA4, x_sI10, x_sI20, x_sI21, x_sI40, x_sI41, x_sI42, x_sI43, gb1, gb2, gb4, x_isP, x_isAm, x_isAc, x_isOp, x_isOT, rm_gt, rm_ge, rB, Nat.reduceAdd, Nat.reduceLeDiff, Nat.reduceLT, not_true_eq_false, not_false_eq_true, forall_const, false_implies, true_implies, and_true, true_and, and_self, i10, n10, true_or, or_true, false_or, or_false, false_and, and_false, w_rI hE1, w_rA hE1, w_fr hE1 hN1, w_ou hE1 hN2, x_isFr hN3, x_isPl hN4, t_X6_isConnected_b39, t_X6_isConnected_b38, t_X6_isConnected_b19, t_X6_isConnected_b0, t_X6_isConnected, not_true_eq_false, not_false_eq_true, forall_const, false_implies, true_implies, and_true, true_and, and_self, i10, n10, true_or, or_true, false_or, or_false, false_and, and_false, w_bnd2, w_bind, w_some, w_ite, w_thr, w_thr0, w_thr1, y_thr0, y_thr1, b1_some, b2_some, bi_0, zgd_bi, zgd0, zgd1, Classical.not_not, uSc_1, uSt_1, uAm_1, uAr_1, tS_s, tS_st, y_isCell, y_inRange, bi_if, bi_30, y_isOver, y_isFr (t := uSc t 2 0) hB hN3, ha]
    refine w_mono (y_CN (t := uSc t 2 0) hB hE1 p1) fun w hw => ?_
    obtain ⟨r2, ew⟩ := hw
    subst ew
    have hB1 : RB s2 N.1 N.2.1 N.2.2.1 mo t.1 := RB_ce hB ⟨h8, h16, h200⟩ (fun y hy => rfl) hq.1 hq.2.1 (fun c q1 q2 q3 q4 => hq.2.2 c q2 q3) (fun c hc => by rw [hq.2.2 (N.1 + 16) (by omega) (by omega)]; exact r_cel hB hc)
    have hfin : ∀ v : Int32, Rs ec1 (.inl v) v (tSc (uAr (uSc t 2 0) 3 r2) 2) := fun v => Rs_l rfl
    have hP : ∀ b, Po N mo n s t g s2 (uAr (uSc t 2 0) 3 r2) (gt g 1 b) := fun b => ⟨hB1, IV_n hI (Nat.le_succ n), ⟨hq.1, by rw [hq.2.1], fun c hc h22 => ⟨hq.2.2 c (by omega) (by omega), by rw [hq.2.1]⟩⟩, okT_ar (okT_thr (okT_rfl t) _) (by decide) _, gxw (gx_gt1 (gx_rfl _)) (by decide) (by decide)⟩
    by_cases c : CN s N.1 p1
    · simp (maxDischargeDepth := 12) only [not_true_eq_false, not_false_eq_true, forall_const, false_implies, true_implies, and_true, true_and, and_self, i10, n10, true_or, or_true, false_or, or_false, false_and, and_false, w_bnd2, w_bind, w_some, w_ite, w_thr, w_thr0, w_thr1, y_thr0, y_thr1, b1_some, b2_some, bi_0, zgd_bi, zgd0, zgd1, Classical.not_not, uSc_1, uSt_1, uAm_1, uAr_1, tS_s, tS_st, y_isCell, y_inRange, bi_if, bi_30, y_isOver, bi_t c]
      exact ⟨hfin 1, hP _⟩
    · simp (maxDischargeDepth := 12) only [not_true_eq_false, not_false_eq_true, forall_const, false_implies, true_implies, and_true, true_and, and_self, i10, n10, true_or, or_true, false_or, or_false, false_and, and_false, w_bnd2, w_bind, w_some, w_ite, w_thr, w_thr0, w_thr1, y_thr0, y_thr1, b1_some, b2_some, bi_0, zgd_bi, zgd0, zgd1, Classical.not_not, uSc_1, uSt_1, uAm_1, uAr_1, tS_s, tS_st, y_isCell, y_inRange, bi_if, bi_30, y_isOver, bi_f c]
      exact ⟨hfin 0, hP _⟩
  · simp (maxDischargeDepth := 12) only [t_X6_isConnected_b39, t_X6_isConnected_b38, t_X6_isConnected_b19, t_X6_isConnected_b0, t_X6_isConnected, not_true_eq_false, not_false_eq_true, forall_const, false_implies, true_implies, and_true, true_and, and_self, i10, n10, true_or, or_true, false_or, or_false, false_and, and_false, w_bnd2, w_bind, w_some, w_ite, w_thr, w_thr0, w_thr1, y_thr0, y_thr1, b1_some, b2_some, bi_0, zgd_bi, zgd0, zgd1, Classical.not_not, uSc_1, uSt_1, uAm_1, uAr_1, tS_s, tS_st, y_isCell, y_inRange, bi_if, bi_30, y_isOver, y_isFr (t := uSc t 2 0) hB hN3, ha]
    exact ⟨Rs20, (Po_ro hB hI rfl (okT_thr (okT_thr (okT_rfl t) _) _) (by first | exact gxw (gx_rfl _) (by decide) (by decide) | exact gxw (gx_ge1 (gx_rfl _)) (by decide) (by decide) | exact gxw (gx_gt1 (gx_rfl _)) (by decide) (by decide) | exact gxw (gx_ge1 (gx_gt1 (gx_rfl _))) (by decide) (by decide) | exact gxw (gx_gt1 (gx_gt1 (gx_rfl _))) (by decide) (by decide) | exact gxw (gx_ge1 (gx_gt1 (gx_gt1 (gx_rfl _)))) (by decide) (by decide) | exact gxw (gx_gt1 (gx_gt1 (gx_gt1 (gx_rfl _)))) (by decide) (by decide) | exact gxw (gx_ge1 (gx_gt1 (gx_gt1 (gx_gt1 (gx_rfl _))))) (by decide) (by decide) | exact gxw (gx_gt1 (gx_gt1 (gx_gt1 (gx_gt1 (gx_rfl _))))) (by decide) (by decide) | exact gxw (gx_ge1 (gx_gt1 (gx_gt1 (gx_gt1 (gx_gt1 (gx_rfl _)))))) (by decide) (by decide) | exact gxw (gx_gt1 (gx_gt1 (gx_gt1 (gx_gt1 (gx_gt1 (gx_rfl _)))))) (by decide) (by decide) | exact gxw (gx_ge1 (gx_gt1 (gx_gt1 (gx_gt1 (gx_gt1 (gx_gt1 (gx_rfl _))))))) (by decide) (by decide)))⟩
/-- cells on the first side of the k-th line -/
def bef (s : cT) (o : Nat) (f : Int32) (k c : Nat) : Prop := s.2.1 (o + 16) c = f ∧ (if k < 29 then c % 30 < k + 1 else c / 30 < k - 28)
noncomputable def dv (s : cT) (o : Nat) (f : Int32) (k : Nat) : Nat := ad (cnt (ownd s o f) 900) (2 * cnt (bef s o f k) 900)
/-- the best of the first j lines; 58 for none -/
noncomputable def hb (s : cT) (o : Nat) (f : Int32) : Nat → Nat
  | 0 => 58
  | j + 1 => if hb s o f j = 58 ∨ dv s o f j < dv s o f (hb s o f j) then j else hb s o f j
theorem hb_y {s : cT} {o : Nat} {f : Int32} {j : Nat} (h : hb s o f j = 58 ∨ dv s o f j < dv s o f (hb s o f j)) : hb s o f (j + 1) = j := if_pos h
theorem hb_n {s : cT} {o : Nat} {f : Int32} {j : Nat} (h : ¬ (hb s o f j = 58 ∨ dv s o f j < dv s o f (hb s o f j))) : hb s o f (j + 1) = hb s o f j := if_neg h
/-- a line as it is told -/
def tld (k : Nat) : Int32 := if k = 58 then -1 else if k < 29 then Int32.ofNat (k + 1) else Int32.ofNat (100 + (k - 28))
theorem bef_le (s : cT) (o : Nat) (f : Int32) (k : Nat) : ∀ n, n ≤ 900 → cnt (bef s o f k) n ≤ cnt (ownd s o f) n := by
  intro n
  induction n with
  | zero => intro _; exact Nat.le_refl _
  | succ n ih =>
    intro hn
    have i1 := ih (by omega)
    by_cases q : bef s o f k n
    · rw [cnt_y q, cnt_y (show ownd s o f n from ⟨by omega, q.1⟩)]
      omega
    · rw [cnt_n q]
      by_cases q2 : ownd s o f n
      · rw [cnt_y q2]; omega
      · rw [cnt_n q2]; exact i1
theorem dv_le (s : cT) (o : Nat) (f : Int32) (k : Nat) : dv s o f k ≤ 900 := by
  have h1 := bef_le s o f k 900 (Nat.le_refl _)
  have h2 := cnt_le (ownd s o f) 900
  unfold dv ad
  omega
theorem hb_le (s : cT) (o : Nat) (f : Int32) : ∀ j, j ≤ 58 → hb s o f j = 58 ∨ hb s o f j < 58
  | 0, _ => Or.inl rfl
  | j + 1, hj => by
    have := hb_le s o f j (by omega)
    by_cases q : hb s o f j = 58 ∨ dv s o f j < dv s o f (hb s o f j)
    · rw [hb_y q]; right; omega
    · rw [hb_n q]; exact this
theorem x_DF (hE : 1000 ≤ E.1) (f : Int32) {k : Nat} (hk : k < 58) : c_X1_difference E N f (Int32.ofNat (if k < 29 then k + 1 else k - 28)) (if k < 29 then 1 else 0) s g = some (Int32.ofNat (dv s N.1 f k), (s, g)) := by
  rw [← w_eq]
  unfold c_X1_difference c_X1_difference_b0
  refine w_lp (L := fun m i a => c_X1_difference_l6 E N m f (Int32.ofNat (if k < 29 then k + 1 else k - 28)) (if k < 29 then 1 else 0) a i s g) (n := 900) (by decide) (Inv := fun j a => a = Int32.ofNat (2 * cnt (bef s N.1 f k) j) - Int32.ofNat (cnt (ownd s N.1 f) j)) (fun m j a hj ha kk => ?_) (fun m a ha => ?_) 900 0 E.1 0 rfl (by omega) (show (0 : Int32) = Int32.ofNat (2 * 0) - Int32.ofNat 0 by decide)
  · show Ww (c_X1_difference_l6 E N (m + 1) f (Int32.ofNat (if k < 29 then k + 1 else k - 28)) (if k < 29 then 1 else 0) a (Int32.ofNat j) s g) _
    have b1 := bef_le s N.1 f k j (by omega)
    have b2 := cnt_le (ownd s N.1 f) j
    unfold c_X1_difference_l6 c_X1_difference_b53 c_X1_difference_b62 c_X1_difference_b65
    rw [if_neg (le900 hj), cdI_of hj (by decide), b1_some, i32_s]
    by_cases h1 : s.2.1 (N.1 + 16) j = f
    · have ho : ownd s N.1 f j := ⟨hj, h1⟩
      have up : bef s N.1 f k j → Ww (c_X1_difference_l6 E N m f (Int32.ofNat (if k < 29 then k + 1 else k - 28)) (if k < 29 then 1 else 0) (a + 1) (Int32.ofNat (j + 1)) s g) _ := fun hh => kk _ (by
        rw [ha, cnt_y hh, cnt_y ho, ← Int32.toInt_inj, Int32.toInt_add, i32_subI (by omega) (by omega), i32_subI (by omega) (by omega)]
        show ((_ : Int) + 1).bmod (2 ^ 32) = _
        rw [Int.bmod_eq_of_le (by omega) (by omega)]
        omega)
      have dn : ¬ bef s N.1 f k j → Ww (c_X1_difference_l6 E N m f (Int32.ofNat (if k < 29 then k + 1 else k - 28)) (if k < 29 then 1 else 0) (a + -1) (Int32.ofNat (j + 1)) s g) _ := fun hh => kk _ (by
        rw [ha, cnt_n hh, cnt_y ho, ← Int32.toInt_inj, Int32.toInt_add, i32_subI (by omega) (by omega), i32_subI (by omega) (by omega)]
        show ((_ : Int) + -1).bmod (2 ^ 32) = _
        rw [Int.bmod_eq_of_le (by omega) (by omega)]
        omega)
      rw [if_pos h1]
      by_cases c : k < 29
      · rw [if_pos c, if_pos c] at up dn ⊢
        rw [if_neg (by decide), x_col (by omega), b2_some]
        by_cases q : k + 1 ≤ j % 30
        · rw [if_pos ((i32_le (by omega) (by omega)).mpr q)]
          exact dn (fun hh => by have := hh.2; rw [if_pos c] at this; omega)
        · rw [if_neg (fun e => q ((i32_le (by omega) (by omega)).mp e))]
          exact up ⟨h1, by rw [if_pos c]; omega⟩
      · rw [if_neg c, if_neg c] at up dn ⊢
        rw [if_pos rfl, x_row (by omega), b2_some]
        by_cases q : k - 28 ≤ j / 30
        · rw [if_pos ((i32_le (by omega) (by omega)).mpr q)]
          exact dn (fun hh => by have := hh.2; rw [if_neg c] at this; omega)
        · rw [if_neg (fun e => q ((i32_le (by omega) (by omega)).mp e))]
          exact up ⟨h1, by rw [if_neg c]; omega⟩
    · rw [if_neg h1]
      refine kk _ ?_
      rw [ha, cnt_n (show ¬ bef s N.1 f k j from fun q => h1 q.1), cnt_n (show ¬ ownd s N.1 f j from fun q => h1 q.2)]
  · show Ww (c_X1_difference_l6 E N (m + 1) f (Int32.ofNat (if k < 29 then k + 1 else k - 28)) (if k < 29 then 1 else 0) a (Int32.ofNat 900) s g) _
    have b1 := bef_le s N.1 f k 900 (by omega)
    have b2 := cnt_le (ownd s N.1 f) 900
    unfold c_X1_difference_l6
    rw [if_pos re900, x_abs, b2_some, w_some, ha, i32_abs (by omega) (by omega), ad_comm]
    rfl
theorem x_HL (hE : 1000 ≤ E.1) (f : Int32) : c_X1_halvingLine_l19 E N E.1 f (-1 : Int32) (901 : Int32) (0 : Int32) s g = some (.inl (tld (hb s N.1 f 58)), (s, g)) := by
  rw [← w_eq]
  refine w_lp (σ := Int32 × Int32) (L := fun m i a => c_X1_halvingLine_l19 E N m f a.1 a.2 i s g) (n := 58) (by decide) (Inv := fun j a => a.1 = tld (hb s N.1 f j) ∧ a.2 = if hb s N.1 f j = 58 then 901 else Int32.ofNat (dv s N.1 f (hb s N.1 f j))) (fun m j a hj ha k => ?_) (fun m a ha => ?_) 58 0 E.1 (-1, 901) rfl (by omega) ⟨rfl, rfl⟩
  · show Ww (c_X1_halvingLine_l19 E N (m + 1) f a.1 a.2 (Int32.ofNat j) s g) _
    obtain ⟨ha1, ha2⟩ := ha
    have d1 := dv_le s N.1 f j
    have d2 := dv_le s N.1 f (hb s N.1 f j)
    have cmp : Int32.ofNat (dv s N.1 f j) < a.2 ↔ (hb s N.1 f j = 58 ∨ dv s N.1 f j < dv s N.1 f (hb s N.1 f j)) := by
      rw [ha2]
      by_cases q : hb s N.1 f j = 58
      · rw [if_pos q, show (901 : Int32) = Int32.ofNat 901 from rfl, i32_lt (by omega) (by decide)]
        exact ⟨fun _ => Or.inl q, fun _ => by omega⟩
      · rw [if_neg q, i32_lt (by omega) (by omega)]
        exact ⟨Or.inr, fun k => k.elim (fun e => absurd e q) id⟩
    have go : ∀ (ln fl v : Int32), ln = Int32.ofNat (if j < 29 then j + 1 else j - 28) → fl = (if j < 29 then 1 else 0) → v = tld j → c_X1_difference E N f ln fl s g = some (Int32.ofNat (dv s N.1 f j), (s, g)) := fun ln fl v e1 e2 e3 => by
      rw [e1, e2]
      exact x_DF hE f hj
    have y1 : (hb s N.1 f j = 58 ∨ dv s N.1 f j < dv s N.1 f (hb s N.1 f j)) → ∀ v, v = tld j → Ww (c_X1_halvingLine_l19 E N m f v (Int32.ofNat (dv s N.1 f j)) (Int32.ofNat (j + 1)) s g) _ := fun hh v hv => k (v, Int32.ofNat (dv s N.1 f j)) (by rw [hb_y hh]; exact ⟨hv, by rw [if_neg (by omega)]⟩)
    have y0 : ¬ (hb s N.1 f j = 58 ∨ dv s N.1 f j < dv s N.1 f (hb s N.1 f j)) → Ww (c_X1_halvingLine_l19 E N m f a.1 a.2 (Int32.ofNat (j + 1)) s g) _ := fun hh => k a (by rw [hb_n hh]; exact ⟨ha1, ha2⟩)
    have m29 : Int32.ofNat j - Int32.ofNat j / (29 : Int32) * (29 : Int32) + (1 : Int32) = Int32.ofNat (j % 29 + 1) := by
      show Int32.ofNat j - Int32.ofNat j / Int32.ofNat 29 * Int32.ofNat 29 + 1 = _
      rw [i32_div (by omega) (by decide), ← Int32.ofNat_mul, i32_sub (by omega) (by omega), i32_s]
      congr 1
      omega
    unfold c_X1_halvingLine_l19 c_X1_halvingLine_b38 c_X1_halvingLine_b84 c_X1_halvingLine_b88
    rw [if_neg (le58 hj), m29, i32_s]
    by_cases c : j < 29
    · have e29 : j % 29 = j := by omega
      rw [if_neg (show ¬ (29 : Int32) ≤ Int32.ofNat j from fun e => by have := (i32_le (a := 29) (by decide) (by omega)).mp e; omega), e29, go _ 1 (tld j) (by rw [if_pos c]) (by rw [if_pos c]) rfl, b2_some]
      by_cases q : hb s N.1 f j = 58 ∨ dv s N.1 f j < dv s N.1 f (hb s N.1 f j)
      · rw [if_pos (cmp.mpr q), if_neg (by decide)]
        exact y1 q _ (by unfold tld; rw [if_neg (by omega), if_pos c])
      · rw [if_neg (fun e => q (cmp.mp e))]
        exact y0 q
    · have e29 : j % 29 = j - 29 := by omega
      rw [if_pos (show (29 : Int32) ≤ Int32.ofNat j from (i32_le (a := 29) (by decide) (by omega)).mpr (by omega)), e29, go _ 0 (tld j) (by rw [if_neg c]; congr 1; omega) (by rw [if_neg c]) rfl, b2_some]
      by_cases q : hb s N.1 f j = 58 ∨ dv s N.1 f j < dv s N.1 f (hb s N.1 f j)
      · rw [if_pos (cmp.mpr q), if_pos rfl]
        refine y1 q _ ?_
        unfold tld
        rw [if_neg (by omega), if_neg c]
        show Int32.ofNat 100 + Int32.ofNat (j - 29 + 1) = _
        rw [← Int32.ofNat_add]
        congr 1
        omega
      · rw [if_neg (fun e => q (cmp.mp e))]
        exact y0 q
  · show Ww (c_X1_halvingLine_l19 E N (m + 1) f a.1 a.2 (Int32.ofNat 58) s g) _
    unfold c_X1_halvingLine_l19
    rw [if_pos re58, w_some, ha.1]
end OQ
