/-! cells ceded: the operation -/
set_option maxRecDepth 100000
def arA (x x2 : Int32) : Prop := (x + 1).toInt64 ≤ x2.toInt64 ∧ x2.toInt64 ≤ 30
theorem arA_nat {a : Nat} (ha : a < 30) {x2 : Int32} (h : arA (Int32.ofNat a) x2) : ∃ a2, a < a2 ∧ a2 ≤ 30 ∧ x2 = Int32.ofNat a2 := by
  obtain ⟨h1, h2⟩ := h
  rw [i32_s, i32_64_le] at h1
  rw [show (30 : Int64) = (30 : Int32).toInt64 by decide, i32_64_le] at h2
  rw [Int32.le_iff_toInt_le, i32_toInt (by omega)] at h1
  rw [Int32.le_iff_toInt_le, show (30 : Int32).toInt = 30 by decide] at h2
  refine ⟨x2.toInt.toNat, by omega, by omega, ?_⟩
  apply Int32.toInt_inj.mp
  rw [i32_toInt (by omega)]
  omega
theorem g4f (b c d : Prop) : (gall (va_up (va_up (va_up (va_up (fun _ => 0) 0 0) 1 (bi b)) 2 (bi c)) 3 (bi d)) 0 4 = true) ↔ False := by
  rw [show (0 : Int32) = bi False from (bi_f (fun h => h)).symm]
  exact (gb4 False b c d).trans ⟨fun h => h.1, fun h => h.elim⟩
theorem g4t (b c d : Prop) : (gall (va_up (va_up (va_up (va_up (fun _ => 0) 0 1) 1 (bi b)) 2 (bi c)) 3 (bi d)) 0 4 = true) ↔ b ∧ c ∧ d := by
  rw [show (1 : Int32) = bi True from (bi_t trivial).symm]
  exact (gb4 True b c d).trans ⟨fun h => h.2, fun h => ⟨trivial, h⟩⟩
theorem cp900 {s : cT} {a b : Nat} : ccpI s a 900 b 900 (0 : Int32) (0 : Int32) (900 : Int32) = some (uA s b (va_cpy (s.2.1 a) (s.2.1 b) 0 0 900)) := by
  unfold ccpI
  rw [if_pos (by decide)]
  rfl
theorem cpy_at {f g : Nat → Int32} {c : Nat} (hc : c < 900) : va_cpy f g 0 0 900 c = f c := by
  show (if 0 ≤ c ∧ c < 0 + 900 then f (0 + (c - 0)) else g c) = _
  rw [if_pos ⟨by omega, by omega⟩]
  congr 1
  omega
theorem uA_row (s : cT) {c c1 : Nat} (h : c1 ≠ c) (f : Nat → Int32) : (uA s c f).2.1 c1 = s.2.1 c1 := cu_ne s.2.1 _ h
theorem uA_s (s : cT) (c : Nat) (f : Nat → Int32) : (uA s c f).2.1 c = f := cu_same s.2.1 _ _
def ga (g : zH) (a b c d : Int32) : zH := zadd g (true, .inr (12, [.int a, .int b, .int c, .int d])) 4
theorem ga_at (g : zH) (a b c d : Int32) : (ga g a b c d).1 g.2.1 = some (true, .inr (12, [.int a, .int b, .int c, .int d])) := cu_same _ _ _
theorem gx_ga1 {g0 g : zH} {k m : Nat} {a b c d : Int32} (h : gx g0 g k m) : gx g0 (ga g a b c d) (k + 1) (m + 4) := gx_trans h (gx_add g _ 4)
theorem ga_new {g : zH} (hr : rm g 1 4) : nO g 12 4 [.int 0, .int 0, .int 0, .int 0] = some (g.2.1, ga g 0 0 0 0) := by
  unfold nO
  rw [if_pos ⟨hr.1, hr.2⟩]
  rfl
theorem ga_set {g : zH} {a b c d : Int32} (l : List Value) {a1 b1 c1 d1 : Int32} (hl : l = [.int a1, .int b1, .int c1, .int d1]) : zup (ga g a b c d) g.2.1 (true, .inr (12, l)) = ga g a1 b1 c1 d1 := by
  subst hl
  refine Prod.ext ?_ rfl
  funext e
  show va_up (va_up g.1 g.2.1 _) g.2.1 _ e = va_up g.1 g.2.1 _ e
  by_cases h : e = g.2.1
  · subst h
    rw [cu_same, cu_same]
  · rw [cu_ne _ _ h, cu_ne _ _ h, cu_ne _ _ h]
theorem ga_p {g : zH} {a b c d : Int32} (k : Nat) (v : Int32) (hk : k < 4) {a1 b1 c1 d1 : Int32} (hl : ([.int a, .int b, .int c, .int d] : List Value).set k (.int v) = [.int a1, .int b1, .int c1, .int d1]) : pF (ga g a b c d) g.2.1 12 k (.int v) = some (ga g a1 b1 c1 d1) := by
  unfold pF
  rw [ga_at]
  show (if 12 = 12 ∧ k < 4 then some (zup (ga g a b c d) g.2.1 (true, .inr (12, ([.int a, .int b, .int c, .int d] : List Value).set k (.int v)))) else none) = _
  rw [if_pos ⟨rfl, hk⟩, ga_set _ hl]
theorem x_ar {E : zE} {N : iN} {s : cT} {g : zH} (a b c d : Int32) : c_X13_init E N g.2.1 a b c d s (ga g 0 0 0 0) = some ((), (s, ga g a b c d)) := by
  unfold c_X13_init c_X13_init_b0 c_J17_init_X13 c_J17_init_X13_b0
  rw [b2_some]
  show (pF (ga g 0 0 0 0) g.2.1 12 0 (.int a)).bind _ = _
  rw [ga_p 0 a (by decide) (a1 := a) (b1 := 0) (c1 := 0) (d1 := 0) rfl, b1_some, ga_p 1 b (by decide) (a1 := a) (b1 := b) (c1 := 0) (d1 := 0) rfl, b1_some, ga_p 2 c (by decide) (a1 := a) (b1 := b) (c1 := c) (d1 := 0) rfl, b1_some, ga_p 3 d (by decide) (a1 := a) (b1 := b) (c1 := c) (d1 := d) rfl, b1_some]
theorem y_isAr {E : zE} {t : twS} (x1 y1 x2 y2 : Int32) : t_X6_isArea E x1 y1 x2 y2 t = some (bi (isP x1 y1 ∧ arA x1 x2 ∧ arA y1 y2), t) := by
  unfold t_X6_isArea t_X6_isArea_b0 t_X6_isArea_b42 t_X6_isArea_b43
  rw [y_isCell, b2_some, y_inRange, b2_some, y_inRange, b2_some, bi_if, bi_if, show bi ((x1 + 1).toInt64 ≤ x2.toInt64 ∧ x2.toInt64 ≤ 30) = bi (arA x1 x2) from rfl, show bi ((y1 + 1).toInt64 ≤ y2.toInt64 ∧ y2.toInt64 ≤ 30) = bi (arA y1 y2) from rfl]
  by_cases h1 : isP x1 y1
  · by_cases h2 : arA x1 x2
    · by_cases h3 : arA y1 y2
      · rw [bi_t h1, bi_t h2, bi_t h3, bi_t (show isP x1 y1 ∧ arA x1 x2 ∧ arA y1 y2 from ⟨h1, h2, h3⟩)]; rfl
      · rw [bi_t h1, bi_t h2, bi_f h3, bi_f (show ¬ (isP x1 y1 ∧ arA x1 x2 ∧ arA y1 y2) from fun h => h3 h.2.2)]; rfl
    · rw [bi_t h1, bi_f h2, bi_f (show ¬ (isP x1 y1 ∧ arA x1 x2 ∧ arA y1 y2) from fun h => h2 h.2.1)]; rfl
  · rw [bi_f h1, bi_f (show ¬ (isP x1 y1 ∧ arA x1 x2 ∧ arA y1 y2) from fun h => h1 h.1)]; rfl
theorem z2m : ((0 : Int32) ≤ -2) = False := by decide
theorem n2m : ((-2 : Int32) ≤ 0) = True := by decide
theorem zz0 : (Int32.ofNat 0 ≤ (0 : Int32)) = True := by decide
theorem zz1 : ((0 : Int32) ≤ Int32.ofNat 0) = True := by decide
section OQ
variable {E : zE} {N : iN} {mo n : Nat} {s s1 : cT} {t t1 : twS} {g g1 : zH}
theorem Po_ce (h : Pr E N mo n s t g) (hT : okT t t1) (hg : gx g g1 300 3000) (ht : ∀ y, y < 250 ∨ 1150 ≤ y → t1.1 y = t.1 y) (h0 : s1.1 = s.1) (hLR : s1.2.2 = s.2.2) (hs : ∀ c, c ≠ N.1 + 16 → c ≠ N.1 + 17 → c ≠ N.1 + 18 → c ≠ 22 → s1.2.1 c = s.2.1 c) (hc : ∀ c, c < 900 → t1.1 (250 + c) = (s1.2.1 (N.1 + 16) c).toInt64) (hrr : ∀ c, c < 900 → s1.2.1 (N.1 + 16) c = s.2.1 (N.1 + 16) c ∨ ∃ w, w < N.2.1 ∧ s1.2.1 (N.1 + 16) c = Int32.ofNat w) : Po N mo n s t g s1 t1 g1 := by
  obtain ⟨hB, hI, hR, hJ, hE, hr, hS, hO, hS3, hS8, hnn, h200⟩ := h
  obtain ⟨h60, h8, h16, h4⟩ := hI.1
  have hE1 : 1000 ≤ E.1 := by omega
  have hN1 : N.2.1 < 1000 := by omega
  have hN2 : N.2.2.1 < 1000 := by omega
  have hN3 : N.2.1 < 2 ^ 31 := by omega
  have hN4 : N.2.2.2.1 < 2 ^ 31 := by omega
  have rB : ∀ k m, k ≤ 300 → m ≤ 3000 → rm g k m := fun k m a b => rm_le hr a b
  refine ⟨RB_ce hB ⟨h8, h16, h200⟩ ht h0 hLR hs hc, IV_ce hI ht (Nat.le_succ n) (fun c hc1 => ?_), ⟨h0, by rw [hLR], fun c q1 q2 => ⟨hs c (by omega) (by omega) (by omega) q2, by rw [hLR]⟩⟩, hT, hg⟩
  rw [hc c hc1]
  rcases hrr c hc1 with e | ⟨w, hw, e⟩
  · rw [e, ← r_cel hB hc1]
    exact hI.2.2.2.1 c hc1
  · rw [e, i32_64 (by omega)]
    unfold btw
    rw [Int64.toInt_ofNat_of_lt (by omega)]
    omega
theorem ncel {x : Nat} (h : 5054 ≤ x ∨ cst x) : x < 250 ∨ 1150 ≤ x := by
  rcases h with h | h | h | ⟨j, hj, h⟩ <;> omega
theorem o_cede (h : Pr E N mo n s t g) (p1 p2 p3 p4 p5 p6 : Int32) : Ww (c_X1_cede E N p1 p2 p3 p4 p5 p6 s g) fun z => Ww (t_X6_cede E p1 p2 p3 p4 p5 p6 t) fun w => Rs ec2 z.1 w.1 (tSc w.2 2) ∧ Po N mo n s t g z.2.1 w.2 z.2.2 := by
  have hP := h
  obtain ⟨hB, hI, hR, hJ, hE, hr, hS, hO, hS3, hS8, hnn, h200⟩ := h
  obtain ⟨h60, h8, h16, h4⟩ := hI.1
  have hE1 : 1000 ≤ E.1 := by omega
  have hN1 : N.2.1 < 1000 := by omega
  have hN2 : N.2.2.1 < 1000 := by omega
  have hN3 : N.2.1 < 2 ^ 31 := by omega
  have hN4 : N.2.2.2.1 < 2 ^ 31 := by omega
  have rB : ∀ k m, k ≤ 300 → m ≤ 3000 → rm g k m := fun k m a b => rm_le hr a b
  unfold c_X1_cede c_X1_cede_b0 c_X1_cede_b29
  simp (maxDischargeDepth := 12) only [w_bnd2, w_bind, w_some, w_ite, el_l, el_r, b1_some, b2_some, bi_if, bi_30, bi_0, zgd_bi, zgd0, zgd1, Classical.not_not, x_nA1, x_nA2, x_nA4, x_sI10, x_sI20, x_sI21, x_sI40, x_sI41, x_sI42, x_sI43, gb1, gb2, gb4, x_isP, x_isAm, x_isAc, x_isOp, x_isOT, rm_gt, rm_ge, rB, Nat.reduceAdd, Nat.reduceLeDiff, Nat.reduceLT, not_true_eq_false, not_false_eq_true, forall_const, false_implies, true_implies, and_true, true_and, and_self, i10, n10, true_or, or_true, false_or, or_false, false_and, and_false, w_rI hE1, w_rA hE1, w_fr hE1 hN1, w_ou hE1 hN2, x_isFr hN3, x_isPl hN4, g4f, g4t, c_X1_cede_b91]
  refine ⟨fun i e hi => ⟨fun j e2 hj => ⟨fun heq => ?_, fun hne => ⟨fun ha => ⟨fun hb => ?_, fun hb => ⟨fun hc => ?_, fun hc => ?_⟩⟩, fun ha => ?_⟩⟩, fun hn2 => ?_⟩, fun hn => ?_⟩
  all_goals try subst e
  all_goals try subst e2
  · simp (maxDischargeDepth := 12) only [t_X6_cede_b65, t_X6_cede_b83, t_X6_cede_b241, t_X6_cede_b193, t_X6_cede_b192, t_X6_cede_b164, t_X6_cede_b146, t_X6_cede_b145, t_X6_cede_b58, t_X6_cede_b53, t_X6_cede_b27, t_X6_cede_b22, t_X6_cede_b0, t_X6_cede, not_true_eq_false, not_false_eq_true, forall_const, false_implies, true_implies, and_true, true_and, and_self, i10, n10, true_or, or_true, false_or, or_false, false_and, and_false, w_bnd2, w_bind, w_some, w_ite, w_thr, w_thr0, w_thr1, y_thr0, y_thr1, b1_some, b2_some, bi_0, zgd_bi, zgd0, zgd1, Classical.not_not, uSc_1, uSt_1, uAm_1, uAr_1, tS_s, tS_st, y_isCell, y_inRange, bi_if, bi_30, y_isOver, y_isFr (t := uSc t 2 0) hB hN3, y_isAr, inF_n (show i < 2 ^ 31 by omega), inF_n (show j < 2 ^ 31 by omega), hi, hj, heq]
    exact ⟨Rs21, (Po_ro hB hI rfl (okT_thr (okT_thr (okT_rfl t) _) _) (by first | exact gxw (gx_rfl _) (by decide) (by decide) | exact gxw (gx_ge1 (gx_rfl _)) (by decide) (by decide) | exact gxw (gx_gt1 (gx_rfl _)) (by decide) (by decide) | exact gxw (gx_ge1 (gx_gt1 (gx_rfl _))) (by decide) (by decide) | exact gxw (gx_gt1 (gx_gt1 (gx_rfl _))) (by decide) (by decide) | exact gxw (gx_ge1 (gx_gt1 (gx_gt1 (gx_rfl _)))) (by decide) (by decide) | exact gxw (gx_gt1 (gx_gt1 (gx_gt1 (gx_rfl _)))) (by decide) (by decide) | exact gxw (gx_ge1 (gx_gt1 (gx_gt1 (gx_gt1 (gx_rfl _))))) (by decide) (by decide) | exact gxw (gx_gt1 (gx_gt1 (gx_gt1 (gx_gt1 (gx_rfl _))))) (by decide) (by decide) | exact gxw (gx_ge1 (gx_gt1 (gx_gt1 (gx_gt1 (gx_gt1 (gx_rfl _)))))) (by decide) (by decide) | exact gxw (gx_gt1 (gx_gt1 (gx_gt1 (gx_gt1 (gx_gt1 (gx_rfl _)))))) (by decide) (by decide) | exact gxw (gx_ge1 (gx_gt1 (gx_gt1 (gx_gt1 (gx_gt1 (gx_gt1 (gx_rfl _))))))) (by decide) (by decide)))⟩
  · simp (maxDischargeDepth := 12) only [t_X6_cede_b65, t_X6_cede_b83, t_X6_cede_b241, t_X6_cede_b193, t_X6_cede_b192, t_X6_cede_b164, t_X6_cede_b146, t_X6_cede_b145, t_X6_cede_b58, t_X6_cede_b53, t_X6_cede_b27, t_X6_cede_b22, t_X6_cede_b0, t_X6_cede, not_true_eq_false, not_false_eq_true, forall_const, false_implies, true_implies, and_true, true_and, and_self, i10, n10, true_or, or_true, false_or, or_false, false_and, and_false, w_bnd2, w_bind, w_some, w_ite, w_thr, w_thr0, w_thr1, y_thr0, y_thr1, b1_some, b2_some, bi_0, zgd_bi, zgd0, zgd1, Classical.not_not, uSc_1, uSt_1, uAm_1, uAr_1, tS_s, tS_st, y_isCell, y_inRange, bi_if, bi_30, y_isOver, y_isFr (t := uSc t 2 0) hB hN3, y_isAr, inF_n (show i < 2 ^ 31 by omega), inF_n (show j < 2 ^ 31 by omega), hi, hj, hne, show isP p3 p4 ∧ arA p3 p5 ∧ arA p4 p6 from ha, y_isActive (show i < 8 by omega), r_stat hB hi, le_0, hb]
    exact ⟨Rs_l rfl, (Po_ro hB hI rfl (okT_thr (okT_rfl t) _) (by first | exact gxw (gx_rfl _) (by decide) (by decide) | exact gxw (gx_ge1 (gx_rfl _)) (by decide) (by decide) | exact gxw (gx_gt1 (gx_rfl _)) (by decide) (by decide) | exact gxw (gx_ge1 (gx_gt1 (gx_rfl _))) (by decide) (by decide) | exact gxw (gx_gt1 (gx_gt1 (gx_rfl _))) (by decide) (by decide) | exact gxw (gx_ge1 (gx_gt1 (gx_gt1 (gx_rfl _)))) (by decide) (by decide) | exact gxw (gx_gt1 (gx_gt1 (gx_gt1 (gx_rfl _)))) (by decide) (by decide) | exact gxw (gx_ge1 (gx_gt1 (gx_gt1 (gx_gt1 (gx_rfl _))))) (by decide) (by decide) | exact gxw (gx_gt1 (gx_gt1 (gx_gt1 (gx_gt1 (gx_rfl _))))) (by decide) (by decide) | exact gxw (gx_ge1 (gx_gt1 (gx_gt1 (gx_gt1 (gx_gt1 (gx_rfl _)))))) (by decide) (by decide) | exact gxw (gx_gt1 (gx_gt1 (gx_gt1 (gx_gt1 (gx_gt1 (gx_rfl _)))))) (by decide) (by decide) | exact gxw (gx_ge1 (gx_gt1 (gx_gt1 (gx_gt1 (gx_gt1 (gx_gt1 (gx_rfl _))))))) (by decide) (by decide)))⟩
  · simp (maxDischargeDepth := 12) only [t_X6_cede_b65, t_X6_cede_b83, t_X6_cede_b241, t_X6_cede_b193, t_X6_cede_b192, t_X6_cede_b164, t_X6_cede_b146, t_X6_cede_b145, t_X6_cede_b58, t_X6_cede_b53, t_X6_cede_b27, t_X6_cede_b22, t_X6_cede_b0, t_X6_cede, not_true_eq_false, not_false_eq_true, forall_const, false_implies, true_implies, and_true, true_and, and_self, i10, n10, true_or, or_true, false_or, or_false, false_and, and_false, w_bnd2, w_bind, w_some, w_ite, w_thr, w_thr0, w_thr1, y_thr0, y_thr1, b1_some, b2_some, bi_0, zgd_bi, zgd0, zgd1, Classical.not_not, uSc_1, uSt_1, uAm_1, uAr_1, tS_s, tS_st, y_isCell, y_inRange, bi_if, bi_30, y_isOver, y_isFr (t := uSc t 2 0) hB hN3, y_isAr, inF_n (show i < 2 ^ 31 by omega), inF_n (show j < 2 ^ 31 by omega), hi, hj, hne, show isP p3 p4 ∧ arA p3 p5 ∧ arA p4 p6 from ha, y_isActive (show i < 8 by omega), y_isActive (show j < 8 by omega), r_stat hB hi, r_stat hB hj, le_0, hb, hc]
    exact ⟨Rs_l rfl, (Po_ro hB hI rfl (okT_thr (okT_rfl t) _) (by first | exact gxw (gx_rfl _) (by decide) (by decide) | exact gxw (gx_ge1 (gx_rfl _)) (by decide) (by decide) | exact gxw (gx_gt1 (gx_rfl _)) (by decide) (by decide) | exact gxw (gx_ge1 (gx_gt1 (gx_rfl _))) (by decide) (by decide) | exact gxw (gx_gt1 (gx_gt1 (gx_rfl _))) (by decide) (by decide) | exact gxw (gx_ge1 (gx_gt1 (gx_gt1 (gx_rfl _)))) (by decide) (by decide) | exact gxw (gx_gt1 (gx_gt1 (gx_gt1 (gx_rfl _)))) (by decide) (by decide) | exact gxw (gx_ge1 (gx_gt1 (gx_gt1 (gx_gt1 (gx_rfl _))))) (by decide) (by decide) | exact gxw (gx_gt1 (gx_gt1 (gx_gt1 (gx_gt1 (gx_rfl _))))) (by decide) (by decide) | exact gxw (gx_ge1 (gx_gt1 (gx_gt1 (gx_gt1 (gx_gt1 (gx_rfl _)))))) (by decide) (by decide) | exact gxw (gx_gt1 (gx_gt1 (gx_gt1 (gx_gt1 (gx_gt1 (gx_rfl _)))))) (by decide) (by decide) | exact gxw (gx_ge1 (gx_gt1 (gx_gt1 (gx_gt1 (gx_gt1 (gx_gt1 (gx_rfl _))))))) (by decide) (by decide)))⟩
  · skip
    obtain ⟨a1, b1, ha1, hb1, e3, e4⟩ := isP_nat ha.1
    subst e3 e4
    obtain ⟨a2, ha12, ha2, e5⟩ := arA_nat ha1 ha.2.1
    obtain ⟨b2, hb12, hb2, e6⟩ := arA_nat hb1 ha.2.2
    subst e5 e6
    have n22 : N.1 + 16 ≠ 22 := by omega
    have hB1 : RB (uA s 22 (va_cpy (s.2.1 (N.1 + 16)) (s.2.1 22) 0 0 900)) N.1 N.2.1 N.2.2.1 mo t.1 := RB_ce hB ⟨h8, h16, h200⟩ (fun _ _ => rfl) rfl rfl (fun c _ _ _ q => uA_row _ q _) (fun c hc => by rw [uA_row _ n22]; exact r_cel hB hc)
    have row1 : (uA s 22 (va_cpy (s.2.1 (N.1 + 16)) (s.2.1 22) 0 0 900)).2.1 (N.1 + 16) = s.2.1 (N.1 + 16) := uA_row _ n22 _
    have row22 : ∀ c, c < 900 → (uA s 22 (va_cpy (s.2.1 (N.1 + 16)) (s.2.1 22) 0 0 900)).2.1 22 c = s.2.1 (N.1 + 16) c := fun c hc => by rw [uA_s, cpy_at hc]
    have roth : ∀ c, c ≠ 22 → (uA s 22 (va_cpy (s.2.1 (N.1 + 16)) (s.2.1 22) 0 0 900)).2.1 c = s.2.1 c := fun c q => uA_row _ q _
    have r1 : (uA s 22 (va_cpy (s.2.1 (N.1 + 16)) (s.2.1 22) 0 0 900)).1 = s.1 := rfl
    have r2 : (uA s 22 (va_cpy (s.2.1 (N.1 + 16)) (s.2.1 22) 0 0 900)).2.2 = s.2.2 := rfl
    simp (maxDischargeDepth := 12) only [cp900, ga_new, x_ar, w_some, rm_gt, rm_ge, rB, Nat.reduceAdd, Nat.reduceLeDiff]
    generalize uA s 22 (va_cpy (s.2.1 (N.1 + 16)) (s.2.1 22) 0 0 900) = s1 at hB1 row1 row22 roth r1 r2 ⊢
    have back : ∀ sx : cT, sx.1 = s1.1 → sx.2.2 = s1.2.2 → (∀ c, c ≠ N.1 + 16 → c ≠ N.1 + 17 → c ≠ N.1 + 18 → sx.2.1 c = s1.2.1 c) → ∀ (t9 : twS) (g9 : zH), okT t t9 → gx g g9 300 3000 → (∀ y, y < 250 ∨ 1150 ≤ y → t9.1 y = t.1 y) → (∀ c, c < 900 → t9.1 (250 + c) = t.1 (250 + c)) → Po N mo n s t g (uA sx (N.1 + 16) (va_cpy (sx.2.1 22) (sx.2.1 (N.1 + 16)) 0 0 900)) t9 g9 := fun sx x1 x2 x3 t9 g9 hT hg hy hc => by
      have rr : ∀ c, c < 900 → (uA sx (N.1 + 16) (va_cpy (sx.2.1 22) (sx.2.1 (N.1 + 16)) 0 0 900)).2.1 (N.1 + 16) c = s.2.1 (N.1 + 16) c := fun c hc => by rw [uA_s, cpy_at hc, x3 22 (fun q => n22 q.symm) (by omega) (by omega), row22 c hc]
      exact Po_ce hP hT hg hy (x1.trans r1) (x2.trans r2) (fun c q1 q2 q3 q4 => by rw [uA_row _ q1, x3 c q1 q2 q3, roth c q4]) (fun c hc1 => by rw [hc c hc1, r_cel hB hc1, rr c hc1]) (fun c hc1 => Or.inl (rr c hc1))
    refine w_mono (x_mv (s := s1) hE1 h16 (ga_at _ _ _ _ _) ha12 ha2 hb12 hb2 (show j < 8 by omega)) fun z hz => ?_
    obtain ⟨r, zz⟩ := z
    obtain ⟨s2, ez, ok, hcase⟩ := hz
    have ez : zz = _ := ez
    subst ez
    have neq : ¬ Int32.ofNat i = Int32.ofNat j := hne
    have hA : isP (Int32.ofNat a1) (Int32.ofNat b1) ∧ arA (Int32.ofNat a1) (Int32.ofNat a2) ∧ arA (Int32.ofNat b1) (Int32.ofNat b2) := ha
    have tgo : ∀ Q : Int32 × twS → Prop, Ww (t_X6_cede_l95 E E.1 (Int32.ofNat i) (Int32.ofNat j) (Int32.ofNat a1) (Int32.ofNat b1) (Int32.ofNat a2) (Int32.ofNat b2) (0 : Int32) (0 : Int32) (0 : Int32) (uSc t 2 0)) Q → Ww (t_X6_cede E (Int32.ofNat i) (Int32.ofNat j) (Int32.ofNat a1) (Int32.ofNat b1) (Int32.ofNat a2) (Int32.ofNat b2) t) Q := fun Q hQ => by
      simp (maxDischargeDepth := 12) only [t_X6_cede_b65, t_X6_cede_b83, t_X6_cede_b241, t_X6_cede_b193, t_X6_cede_b192, t_X6_cede_b164, t_X6_cede_b146, t_X6_cede_b145, t_X6_cede_b58, t_X6_cede_b53, t_X6_cede_b27, t_X6_cede_b22, t_X6_cede_b0, t_X6_cede, not_true_eq_false, not_false_eq_true, forall_const, false_implies, true_implies, and_true, true_and, and_self, i10, n10, true_or, or_true, false_or, or_false, false_and, and_false, w_bnd2, w_bind, w_some, w_ite, w_thr, w_thr0, w_thr1, y_thr0, y_thr1, b1_some, b2_some, bi_0, zgd_bi, zgd0, zgd1, Classical.not_not, uSc_1, uSt_1, uAm_1, uAr_1, tS_s, tS_st, y_isCell, y_inRange, bi_if, bi_30, y_isOver, y_isFr (t := uSc t 2 0) hB hN3, y_isAr, inF_n (show i < 2 ^ 31 by omega), inF_n (show j < 2 ^ 31 by omega), hi, hj, neq, hA, y_isActive (show i < 8 by omega), y_isActive (show j < 8 by omega), r_stat hB hi, r_stat hB hj, le_0, hb, hc]
      exact hQ
    have okm : ∀ m, okT t (uAr (uSc t 2 0) 4 m) := fun m => okT_ar (okT_thr (okT_rfl t) _) (by decide) _
    rcases hcase with ⟨hbad, er⟩ | ⟨hgood, er, hrow⟩
    · have er : r = -2 := er
      subst er
      simp (maxDischargeDepth := 12) only [c_X1_cede_b175, c_X1_cede_b202, cp900, w_some, w_ite, w_bind, z2m, n2m, not_true_eq_false, not_false_eq_true, forall_const, false_implies, true_implies, and_true, true_and, and_self, i10, n10, true_or, or_true, false_or, or_false, false_and, and_false]
      refine tgo _ (y_mv (t := uSc t 2 0) hB1 hE1 h16 ha1 ha2 hb1 hb2 fun m hm => ?_)
      obtain ⟨c, hc9, hmv, hho⟩ := hbad
      have hp := cnt_pos hc9 hmv
      have hl := cnt_le (MV s1 N.1 (Int32.ofNat i) a1 b1 a2 b2) 900
      rw [if_neg (fun e => by have := (i32_eq (b := 0) (by omega) (by decide)).mp e; omega), bi_t (show ∃ c, c < 900 ∧ MV s1 N.1 (Int32.ofNat i) a1 b1 a2 b2 c ∧ HO s1 N.1 N.2.2.1 (Int32.ofNat c) from ⟨c, hc9, hmv, hho⟩), if_neg (by decide), w_some]
      exact ⟨Rs_l rfl, back s2 ok.1 ok.2.1 (fun c q _ _ => ok.2.2 c q) _ _ (okm m) (gxw (gx_ga1 (gx_gt1 (gx_gt1 (gx_gt1 (gx_rfl _))))) (by decide) (by decide)) (fun _ _ => rfl) (fun _ _ => rfl)⟩
    · have er : r = _ := er
      subst er
      have hl := cnt_le (MV s1 N.1 (Int32.ofNat i) a1 b1 a2 b2) 900
      have hnb : ¬ ∃ c, c < 900 ∧ MV s1 N.1 (Int32.ofNat i) a1 b1 a2 b2 c ∧ HO s1 N.1 N.2.2.1 (Int32.ofNat c) := fun ⟨c, q1, q2, q3⟩ => hgood c q1 q2 q3
      by_cases hz : cnt (MV s1 N.1 (Int32.ofNat i) a1 b1 a2 b2) 900 = 0
      · rw [hz]
        simp (maxDischargeDepth := 12) only [c_X1_cede_b175, c_X1_cede_b202, w_some, w_ite, w_bind, zz0, zz1, not_true_eq_false, not_false_eq_true, forall_const, false_implies, true_implies, and_true, true_and, and_self, i10, n10, true_or, or_true, false_or, or_false, false_and, and_false]
        refine tgo _ (y_mv (t := uSc t 2 0) hB1 hE1 h16 ha1 ha2 hb1 hb2 fun m hm => ?_)
        rw [hz, if_pos (show Int32.ofNat 0 = (0 : Int32) by decide), w_some]
        have hrs : ∀ c, c < 900 → s2.2.1 (N.1 + 16) c = s.2.1 (N.1 + 16) c := fun c hc9 => by rw [(hrow c hc9).2 (cnt_z hz c hc9), row1]
        exact ⟨Rs_l rfl, Po_ce hP (okm m) (gxw (gx_ga1 (gx_gt1 (gx_gt1 (gx_gt1 (gx_rfl _))))) (by decide) (by decide)) (fun _ _ => rfl) (ok.1.trans r1) (ok.2.1.trans r2) (fun c q1 _ _ q4 => by rw [ok.2.2 c q1, roth c q4]) (fun c hc9 => by rw [hrs c hc9]; exact r_cel hB hc9) (fun c hc9 => Or.inl (hrs c hc9))⟩
      · have npos : ¬ Int32.ofNat (cnt (MV s1 N.1 (Int32.ofNat i) a1 b1 a2 b2) 900) ≤ 0 := fun e => by have := (i32_le (b := 0) (by omega) (by decide)).mp e; omega
        have pos0 : (0 : Int32) ≤ Int32.ofNat (cnt (MV s1 N.1 (Int32.ofNat i) a1 b1 a2 b2) 900) := (i32_le (a := 0) (by decide) (by omega)).mpr (by omega)
        generalize hcn : Int32.ofNat (cnt (MV s1 N.1 (Int32.ofNat i) a1 b1 a2 b2) 900) = cn at npos pos0 ⊢
        simp (maxDischargeDepth := 12) only [npos, not_true_eq_false, not_false_eq_true, forall_const, false_implies, true_implies, and_true, true_and, and_self, i10, n10, true_or, or_true, false_or, or_false, false_and, and_false]
        refine w_mono (x_CN (s := s2) hE1 (Int32.ofNat i)) fun z hz1 => ?_
        obtain ⟨s3, ez3, hq3⟩ := hz1
        subst ez3
        have k3 : s3.1 = s1.1 ∧ s3.2.2 = s1.2.2 ∧ ∀ c, c ≠ N.1 + 16 → c ≠ N.1 + 17 → c ≠ N.1 + 18 → s3.2.1 c = s1.2.1 c := ⟨hq3.1.trans ok.1, hq3.2.1.trans ok.2.1, fun c q1 q2 q3 => (hq3.2.2 c q2 q3).trans (ok.2.2 c q1)⟩
        have c16 : s3.2.1 (N.1 + 16) = s2.2.1 (N.1 + 16) := hq3.2.2 _ (by omega) (by omega)
        have rown : ∀ c, c < 900 → s2.2.1 (N.1 + 16) c = s.2.1 (N.1 + 16) c ∨ ∃ w, w < N.2.1 ∧ s2.2.1 (N.1 + 16) c = Int32.ofNat w := fun c hc9 => by
          by_cases q : MV s1 N.1 (Int32.ofNat i) a1 b1 a2 b2 c
          · exact Or.inr ⟨j, hj, (hrow c hc9).1 q⟩
          · exact Or.inl (by rw [(hrow c hc9).2 q, row1])
        have tw1 : ∀ (m : Nat → Int32), (∀ c, c < 900 → m c = bi (MV s1 N.1 (Int32.ofNat i) a1 b1 a2 b2 c)) → ∀ Q : Int32 × twS → Prop, (∀ τ : Nat → Int64, (∀ c, c < 900 → (MV s1 N.1 (Int32.ofNat i) a1 b1 a2 b2 c → τ (250 + c) = (Int32.ofNat j).toInt64) ∧ (¬ MV s1 N.1 (Int32.ofNat i) a1 b1 a2 b2 c → τ (250 + c) = t.1 (250 + c))) → (∀ y, y < 250 ∨ 1150 ≤ y → τ y = t.1 y) → RB s2 N.1 N.2.1 N.2.2.1 mo τ → Ww (bnd2 (t_X6_connected E (Int32.ofNat i) (uSt (uAr (uSc t 2 0) 4 m) τ)) fun x11 s9_ => if x11 = 0 then t_X6_cede_b241 E (Int32.ofNat i) s9_ else bnd2 (t_X6_connected E (Int32.ofNat j) s9_) fun x16 s14_ => if x16 = 0 then t_X6_cede_b241 E (Int32.ofNat i) s14_ else some (cn, s14_)) Q) → Ww (if cn = 0 then some ((0 : Int32), uAr (uSc t 2 0) 4 m) else if bi (∃ c, c < 900 ∧ MV s1 N.1 (Int32.ofNat i) a1 b1 a2 b2 c ∧ HO s1 N.1 N.2.2.1 (Int32.ofNat c)) = 0 then (bnd2 (t_X6_give E (Int32.ofNat j) (uAr (uSc t 2 0) 4 m)) fun x7 s5_ => bnd2 (t_X6_connected E (Int32.ofNat i) s5_) fun x11 s9_ => if x11 = 0 then t_X6_cede_b241 E (Int32.ofNat i) s9_ else bnd2 (t_X6_connected E (Int32.ofNat j) s9_) fun x16 s14_ => if x16 = 0 then t_X6_cede_b241 E (Int32.ofNat i) s14_ else some (cn, s14_)) else some ((-2 : Int32), uAr (uSc t 2 0) 4 m)) Q := fun m hm Q hQ => by
          rw [if_neg (fun e => npos (by rw [e]; decide)), if_pos (bi_f hnb), w_bnd2]
          refine w_mono (y_give (t := uAr (uSc t 2 0) 4 m) hE1 hm (Int32.ofNat j) (uAr_4 m)) fun w hw => ?_
          obtain ⟨τ, ew, hτ1, hτ2⟩ := hw
          subst ew
          refine hQ τ hτ1 hτ2 (RB_ce hB ⟨h8, h16, h200⟩ hτ2 (ok.1.trans r1) (ok.2.1.trans r2) (fun c q1 _ _ q4 => by rw [ok.2.2 c q1, roth c q4]) (fun c hc9 => ?_))
          by_cases q : MV s1 N.1 (Int32.ofNat i) a1 b1 a2 b2 c
          · rw [(hτ1 c hc9).1 q, (hrow c hc9).1 q]
          · rw [(hτ1 c hc9).2 q, (hrow c hc9).2 q, row1]; exact r_cel hB hc9
        have giveback : ∀ (m r9 : Nat → Int32) (τ : Nat → Int64) (sx : cT) (g9 : zH), (∀ c, c < 900 → m c = bi (MV s1 N.1 (Int32.ofNat i) a1 b1 a2 b2 c)) → (∀ c, c < 900 → (MV s1 N.1 (Int32.ofNat i) a1 b1 a2 b2 c → τ (250 + c) = (Int32.ofNat j).toInt64) ∧ (¬ MV s1 N.1 (Int32.ofNat i) a1 b1 a2 b2 c → τ (250 + c) = t.1 (250 + c))) → (∀ y, y < 250 ∨ 1150 ≤ y → τ y = t.1 y) → gx g g9 300 3000 → sx.1 = s1.1 → sx.2.2 = s1.2.2 → (∀ c, c ≠ N.1 + 16 → c ≠ N.1 + 17 → c ≠ N.1 + 18 → sx.2.1 c = s1.2.1 c) → Ww (t_X6_cede_b241 E (Int32.ofNat i) (uAr (uSt (uAr (uSc t 2 0) 4 m) τ) 3 r9)) fun w => Rs ec2 (.inl (-2)) w.1 (tSc w.2 2) ∧ Po N mo n s t g (uA sx (N.1 + 16) (va_cpy (sx.2.1 22) (sx.2.1 (N.1 + 16)) 0 0 900)) w.2 g9 := fun m r9 τ sx g9 hm hτ1 hτ2 hg x1 x2 x3 => by
          unfold t_X6_cede_b241
          rw [w_bnd2]
          refine w_mono (y_give (t := uAr (uSt (uAr (uSc t 2 0) 4 m) τ) 3 r9) hE1 hm (Int32.ofNat i) (by show va_up (va_up t.2.2.1 4 m) 3 r9 4 = m; rw [cu_ne _ _ (by decide), cu_same])) fun w hw => ?_
          obtain ⟨τ2, ew, h1, h2⟩ := hw
          subst ew
          rw [w_some]
          refine ⟨Rs_l rfl, back sx x1 x2 x3 _ _ (okT_stf (okT_ar (okT_stf (okm m) τ (fun x hx => hτ2 x (ncel hx))) (by decide) r9) τ2 (fun x hx => h2 x (ncel hx))) hg (fun y hy => (h2 y hy).trans (hτ2 y hy)) (fun c hc9 => ?_)⟩
          by_cases q : MV s1 N.1 (Int32.ofNat i) a1 b1 a2 b2 c
          · rw [uSt_1, (h1 c hc9).1 q, r_cel hB hc9, ← row1, q.1]
          · rw [uSt_1, (h1 c hc9).2 q]; exact (hτ1 c hc9).2 q
        have conn1 : ∀ (m : Nat → Int32) (τ : Nat → Int64), RB s2 N.1 N.2.1 N.2.2.1 mo τ → Ww (t_X6_connected E (Int32.ofNat i) (uSt (uAr (uSc t 2 0) 4 m) τ)) fun z => ∃ r9, z = (bi (CN s2 N.1 (Int32.ofNat i)), uAr (uSt (uAr (uSc t 2 0) 4 m) τ) 3 r9) := fun m τ hR2 => y_CN (t := uSt (uAr (uSc t 2 0) 4 m) τ) hR2 hE1 _
        by_cases hcn1 : CN s2 N.1 (Int32.ofNat i)
        · rw [bi_t hcn1]
          simp (maxDischargeDepth := 12) only [i10, not_true_eq_false, not_false_eq_true, forall_const, false_implies, true_implies, and_true, true_and, and_self, i10, n10, true_or, or_true, false_or, or_false, false_and, and_false]
          refine w_mono (x_CN (s := s3) hE1 (Int32.ofNat j)) fun z hz2 => ?_
          obtain ⟨s4, ez4, hq4⟩ := hz2
          subst ez4
          rw [CN_cg c16]
          have k4 : s4.1 = s1.1 ∧ s4.2.2 = s1.2.2 ∧ ∀ c, c ≠ N.1 + 16 → c ≠ N.1 + 17 → c ≠ N.1 + 18 → s4.2.1 c = s1.2.1 c := ⟨hq4.1.trans k3.1, hq4.2.1.trans k3.2.1, fun c q1 q2 q3 => (hq4.2.2 c q2 q3).trans (k3.2.2 c q1 q2 q3)⟩
          have d16 : s4.2.1 (N.1 + 16) = s2.2.1 (N.1 + 16) := (hq4.2.2 _ (by omega) (by omega)).trans c16
          by_cases hcn2 : CN s2 N.1 (Int32.ofNat j)
          · rw [bi_t hcn2]
            simp (maxDischargeDepth := 12) only [i10, c_X1_cede_b175, c_X1_cede_b202, w_some, w_ite, pos0, not_true_eq_false, not_false_eq_true, forall_const, false_implies, true_implies, and_true, true_and, and_self, i10, n10, true_or, or_true, false_or, or_false, false_and, and_false]
            refine tgo _ (y_mv (t := uSc t 2 0) hB1 hE1 h16 ha1 ha2 hb1 hb2 fun m hm => ?_)
            rw [hcn]
            refine tw1 m hm _ fun τ hτ1 hτ2 hRB => ?_
            rw [w_bnd2]
            refine w_mono (conn1 m τ hRB) fun w hw => ?_
            obtain ⟨r9, ew⟩ := hw
            subst ew
            rw [bi_t hcn1, if_neg (show ¬ (1 : Int32) = 0 by decide), w_bnd2]
            refine w_mono (y_CN (t := uAr (uSt (uAr (uSc t 2 0) 4 m) τ) 3 r9) hRB hE1 _) fun w hw => ?_
            obtain ⟨r8, ew⟩ := hw
            subst ew
            rw [bi_t hcn2, if_neg (show ¬ (1 : Int32) = 0 by decide), w_some]
            refine ⟨Rs_l rfl, Po_ce hP (okT_ar (okT_ar (okT_stf (okm m) τ (fun x hx => hτ2 x (ncel hx))) (by decide) r9) (by decide) r8) (gxw (gx_ga1 (gx_gt1 (gx_gt1 (gx_gt1 (gx_rfl _))))) (by decide) (by decide)) hτ2 (k4.1.trans r1) (k4.2.1.trans r2) (fun c q1 q2 q3 q4 => by rw [k4.2.2 c q1 q2 q3, roth c q4]) (fun c hc9 => by rw [d16]; exact r_cel hRB hc9) (fun c hc9 => by rw [d16]; exact rown c hc9)⟩
          · rw [bi_f hcn2]
            simp (maxDischargeDepth := 12) only [n10, c_X1_cede_b171, c_X1_cede_b175, c_X1_cede_b202, cp900, w_some, w_ite, w_bind, z2m, not_true_eq_false, not_false_eq_true, forall_const, false_implies, true_implies, and_true, true_and, and_self, i10, n10, true_or, or_true, false_or, or_false, false_and, and_false]
            refine tgo _ (y_mv (t := uSc t 2 0) hB1 hE1 h16 ha1 ha2 hb1 hb2 fun m hm => ?_)
            rw [hcn]
            refine tw1 m hm _ fun τ hτ1 hτ2 hRB => ?_
            rw [w_bnd2]
            refine w_mono (conn1 m τ hRB) fun w hw => ?_
            obtain ⟨r9, ew⟩ := hw
            subst ew
            rw [bi_t hcn1, if_neg (show ¬ (1 : Int32) = 0 by decide), w_bnd2]
            refine w_mono (y_CN (t := uAr (uSt (uAr (uSc t 2 0) 4 m) τ) 3 r9) hRB hE1 _) fun w hw => ?_
            obtain ⟨r8, ew⟩ := hw
            subst ew
            rw [bi_f hcn2, if_pos rfl, uAr_uAr]
            exact giveback m r8 τ s4 _ hm hτ1 hτ2 (gxw (gx_ga1 (gx_gt1 (gx_gt1 (gx_gt1 (gx_rfl _))))) (by decide) (by decide)) k4.1 k4.2.1 k4.2.2
        · rw [bi_f hcn1]
          simp (maxDischargeDepth := 12) only [n10, c_X1_cede_b171, c_X1_cede_b175, c_X1_cede_b202, cp900, w_some, w_ite, w_bind, z2m, not_true_eq_false, not_false_eq_true, forall_const, false_implies, true_implies, and_true, true_and, and_self, i10, n10, true_or, or_true, false_or, or_false, false_and, and_false]
          refine tgo _ (y_mv (t := uSc t 2 0) hB1 hE1 h16 ha1 ha2 hb1 hb2 fun m hm => ?_)
          rw [hcn]
          refine tw1 m hm _ fun τ hτ1 hτ2 hRB => ?_
          rw [w_bnd2]
          refine w_mono (conn1 m τ hRB) fun w hw => ?_
          obtain ⟨r9, ew⟩ := hw
          subst ew
          rw [bi_f hcn1, if_pos rfl]
          exact giveback m r9 τ s3 _ hm hτ1 hτ2 (gxw (gx_ga1 (gx_gt1 (gx_gt1 (gx_gt1 (gx_rfl _))))) (by decide) (by decide)) k3.1 k3.2.1 k3.2.2
  · have ha2 : ¬ (isP p3 p4 ∧ arA p3 p5 ∧ arA p4 p6) := ha
    simp (maxDischargeDepth := 12) only [t_X6_cede_b65, t_X6_cede_b83, t_X6_cede_b241, t_X6_cede_b193, t_X6_cede_b192, t_X6_cede_b164, t_X6_cede_b146, t_X6_cede_b145, t_X6_cede_b58, t_X6_cede_b53, t_X6_cede_b27, t_X6_cede_b22, t_X6_cede_b0, t_X6_cede, not_true_eq_false, not_false_eq_true, forall_const, false_implies, true_implies, and_true, true_and, and_self, i10, n10, true_or, or_true, false_or, or_false, false_and, and_false, w_bnd2, w_bind, w_some, w_ite, w_thr, w_thr0, w_thr1, y_thr0, y_thr1, b1_some, b2_some, bi_0, zgd_bi, zgd0, zgd1, Classical.not_not, uSc_1, uSt_1, uAm_1, uAr_1, tS_s, tS_st, y_isCell, y_inRange, bi_if, bi_30, y_isOver, y_isFr (t := uSc t 2 0) hB hN3, y_isAr, inF_n (show i < 2 ^ 31 by omega), inF_n (show j < 2 ^ 31 by omega), hi, hj, hne, ha2]
    exact ⟨Rs21, (Po_ro hB hI rfl (okT_thr (okT_thr (okT_rfl t) _) _) (by first | exact gxw (gx_rfl _) (by decide) (by decide) | exact gxw (gx_ge1 (gx_rfl _)) (by decide) (by decide) | exact gxw (gx_gt1 (gx_rfl _)) (by decide) (by decide) | exact gxw (gx_ge1 (gx_gt1 (gx_rfl _))) (by decide) (by decide) | exact gxw (gx_gt1 (gx_gt1 (gx_rfl _))) (by decide) (by decide) | exact gxw (gx_ge1 (gx_gt1 (gx_gt1 (gx_rfl _)))) (by decide) (by decide) | exact gxw (gx_gt1 (gx_gt1 (gx_gt1 (gx_rfl _)))) (by decide) (by decide) | exact gxw (gx_ge1 (gx_gt1 (gx_gt1 (gx_gt1 (gx_rfl _))))) (by decide) (by decide) | exact gxw (gx_gt1 (gx_gt1 (gx_gt1 (gx_gt1 (gx_rfl _))))) (by decide) (by decide) | exact gxw (gx_ge1 (gx_gt1 (gx_gt1 (gx_gt1 (gx_gt1 (gx_rfl _)))))) (by decide) (by decide) | exact gxw (gx_gt1 (gx_gt1 (gx_gt1 (gx_gt1 (gx_gt1 (gx_rfl _)))))) (by decide) (by decide) | exact gxw (gx_ge1 (gx_gt1 (gx_gt1 (gx_gt1 (gx_gt1 (gx_gt1 (gx_rfl _))))))) (by decide) (by decide)))⟩
  · simp (maxDischargeDepth := 12) only [t_X6_cede_b65, t_X6_cede_b83, t_X6_cede_b241, t_X6_cede_b193, t_X6_cede_b192, t_X6_cede_b164, t_X6_cede_b146, t_X6_cede_b145, t_X6_cede_b58, t_X6_cede_b53, t_X6_cede_b27, t_X6_cede_b22, t_X6_cede_b0, t_X6_cede, not_true_eq_false, not_false_eq_true, forall_const, false_implies, true_implies, and_true, true_and, and_self, i10, n10, true_or, or_true, false_or, or_false, false_and, and_false, w_bnd2, w_bind, w_some, w_ite, w_thr, w_thr0, w_thr1, y_thr0, y_thr1, b1_some, b2_some, bi_0, zgd_bi, zgd0, zgd1, Classical.not_not, uSc_1, uSt_1, uAm_1, uAr_1, tS_s, tS_st, y_isCell, y_inRange, bi_if, bi_30, y_isOver, y_isFr (t := uSc t 2 0) hB hN3, y_isAr, inF_n (show i < 2 ^ 31 by omega), hi, hn2]
    exact ⟨Rs20, (Po_ro hB hI rfl (okT_thr (okT_thr (okT_rfl t) _) _) (by first | exact gxw (gx_rfl _) (by decide) (by decide) | exact gxw (gx_ge1 (gx_rfl _)) (by decide) (by decide) | exact gxw (gx_gt1 (gx_rfl _)) (by decide) (by decide) | exact gxw (gx_ge1 (gx_gt1 (gx_rfl _))) (by decide) (by decide) | exact gxw (gx_gt1 (gx_gt1 (gx_rfl _))) (by decide) (by decide) | exact gxw (gx_ge1 (gx_gt1 (gx_gt1 (gx_rfl _)))) (by decide) (by decide) | exact gxw (gx_gt1 (gx_gt1 (gx_gt1 (gx_rfl _)))) (by decide) (by decide) | exact gxw (gx_ge1 (gx_gt1 (gx_gt1 (gx_gt1 (gx_rfl _))))) (by decide) (by decide) | exact gxw (gx_gt1 (gx_gt1 (gx_gt1 (gx_gt1 (gx_rfl _))))) (by decide) (by decide) | exact gxw (gx_ge1 (gx_gt1 (gx_gt1 (gx_gt1 (gx_gt1 (gx_rfl _)))))) (by decide) (by decide) | exact gxw (gx_gt1 (gx_gt1 (gx_gt1 (gx_gt1 (gx_gt1 (gx_rfl _)))))) (by decide) (by decide) | exact gxw (gx_ge1 (gx_gt1 (gx_gt1 (gx_gt1 (gx_gt1 (gx_gt1 (gx_rfl _))))))) (by decide) (by decide)))⟩
  · simp (maxDischargeDepth := 12) only [t_X6_cede_b65, t_X6_cede_b83, t_X6_cede_b241, t_X6_cede_b193, t_X6_cede_b192, t_X6_cede_b164, t_X6_cede_b146, t_X6_cede_b145, t_X6_cede_b58, t_X6_cede_b53, t_X6_cede_b27, t_X6_cede_b22, t_X6_cede_b0, t_X6_cede, not_true_eq_false, not_false_eq_true, forall_const, false_implies, true_implies, and_true, true_and, and_self, i10, n10, true_or, or_true, false_or, or_false, false_and, and_false, w_bnd2, w_bind, w_some, w_ite, w_thr, w_thr0, w_thr1, y_thr0, y_thr1, b1_some, b2_some, bi_0, zgd_bi, zgd0, zgd1, Classical.not_not, uSc_1, uSt_1, uAm_1, uAr_1, tS_s, tS_st, y_isCell, y_inRange, bi_if, bi_30, y_isOver, y_isFr (t := uSc t 2 0) hB hN3, y_isAr, hn]
    exact ⟨Rs20, (Po_ro hB hI rfl (okT_thr (okT_thr (okT_rfl t) _) _) (by first | exact gxw (gx_rfl _) (by decide) (by decide) | exact gxw (gx_ge1 (gx_rfl _)) (by decide) (by decide) | exact gxw (gx_gt1 (gx_rfl _)) (by decide) (by decide) | exact gxw (gx_ge1 (gx_gt1 (gx_rfl _))) (by decide) (by decide) | exact gxw (gx_gt1 (gx_gt1 (gx_rfl _))) (by decide) (by decide) | exact gxw (gx_ge1 (gx_gt1 (gx_gt1 (gx_rfl _)))) (by decide) (by decide) | exact gxw (gx_gt1 (gx_gt1 (gx_gt1 (gx_rfl _)))) (by decide) (by decide) | exact gxw (gx_ge1 (gx_gt1 (gx_gt1 (gx_gt1 (gx_rfl _))))) (by decide) (by decide) | exact gxw (gx_gt1 (gx_gt1 (gx_gt1 (gx_gt1 (gx_rfl _))))) (by decide) (by decide) | exact gxw (gx_ge1 (gx_gt1 (gx_gt1 (gx_gt1 (gx_gt1 (gx_rfl _)))))) (by decide) (by decide) | exact gxw (gx_gt1 (gx_gt1 (gx_gt1 (gx_gt1 (gx_gt1 (gx_rfl _)))))) (by decide) (by decide) | exact gxw (gx_ge1 (gx_gt1 (gx_gt1 (gx_gt1 (gx_gt1 (gx_gt1 (gx_rfl _))))))) (by decide) (by decide)))⟩
end OQ
