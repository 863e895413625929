/-! invoices; the wrappers of closeMonth and invoice; truncateInput, error *(c_ and twin)* -/
set_option maxRecDepth 100000
def c_X1_invoice (E : zE) (N : iN) (p1 p2 p3 : Int32) (s : cT) (g : zH) : Option ((Int64 ⊕ (Nat × Nat)) × (cT × zH)) :=
  bnd2 (c_X1_franchisee E N p1 s g) fun x4 z1 =>
  Sum.elim (fun x5 => (
    bnd2 (nA z1.2 3 (2 : Int32) (.inl fun _ => 0)) fun q7 g8 =>
    bnd2 (c_X1_isClosed E N p2 z1.1 g8) fun x13 z2 =>
    (zgd .boolean x13).bind fun _ =>
    (sI z2.2 q7 3 (0 : Int32) x13).bind fun g15 =>
    (zgd .boolean (if (0 : Int64) ≤ p3.toInt64 ∧ p3.toInt64 ≤ (6 : Int64) then (1 : Int32) else 0)).bind fun _ =>
    (sI g15 q7 3 (1 : Int32) (if (0 : Int64) ≤ p3.toInt64 ∧ p3.toInt64 ≤ (6 : Int64) then (1 : Int32) else 0)).bind fun g21 =>
    bnd2 (c_X1_requireArguments E N q7 z2.1 g21) fun x25 z3 =>
    Sum.elim (fun _ => (
      (cRow z3.1 (N.1 + 150 + x5) p2).bind fun e =>
      (cdL z3.1 e 7 p3).bind fun x32 =>
      some (.inl x32, (z3.1, z3.2))
    )) (fun q27 => some (.inr q27, (z3.1, z3.2))) x25
  )) (fun q6 => some (.inr q6, (z1.1, z1.2))) x4
def c_X0_invoice (E : zE) (N : iN) (p1 p2 p3 : Int32) (a : Nat) (s : cT) (g : zH) : Option (Int32 × (cT × zH)) :=
  bnd2 (c_X1_invoice E N p1 p2 p3 s g) fun x z => Sum.elim (fun v => (sL z.2 a (0 : Int32) v).bind fun g1 => some ((0 : Int32), (z.1, g1))) (fun q => if q.1 = 20 then some ((1 : Int32), (z.1, z.2)) else (if q.1 = 21 then some ((2 : Int32), (z.1, z.2)) else none)) x
section CM
variable {p : cP} {N : iN} {s9 : cT} {g9 : zH}
theorem cs_X1_invoice (E : zE) {s : cT} {g : zH} (h : iH p s g N) {p1 p2 p3 : Int32} {r : Int64 ⊕ (Nat × Nat)} (hf : c_X1_invoice E N p1 p2 p3 s g = some (r, (s9, g9))) : f_X1_invoice E (p.1 1) p1 p2 p3 (cH p s g) = some (r, cH p s9 g9) ∧ iH p s9 g9 N := by
  unfold c_X1_invoice at hf
  unfold f_X1_invoice f_X1_invoice_b0
  refine kb1 (a_X_ck h) ?_
  obtain ⟨x4, z1, e1, hf⟩ := zbind2 hf
  obtain ⟨e1, h, hr_x4⟩ := cs_X1_franchisee E h e1
  refine kbc e1 ?_
  rcases x4 with x5 | q6
  · have hf := zinl hf
    have hi := hr_x4 _ rfl
    refine kel_l ?_
    obtain ⟨q7, g8, e8, hf⟩ := zbind2 hf
    have hq := hq_nA h e8
    refine kbc (k_nA h e8) ?_
    have h := iH_g h (gle_nA e8)
    refine kb1 (a_X_ck h) ?_
    obtain ⟨x13, z2, e2, hf⟩ := zbind2 hf
    obtain ⟨e2, h⟩ := cs_X1_isClosed E h e2
    refine kbc e2 ?_
    obtain ⟨_, e3, hf⟩ := zbind hf
    refine kb1 e3 ?_
    obtain ⟨g15, e15, hf⟩ := zbind hf
    refine kb1 ((r_sI hq _ _ _).trans (congrArg (Option.map (cH p _)) e15)) ?_
    have h := iH_g h (gle_sI e15)
    refine kbc (b_inRange _ _ _ _ _) ?_
    obtain ⟨_, e4, hf⟩ := zbind hf
    refine kb1 e4 ?_
    obtain ⟨g21, e21, hf⟩ := zbind hf
    refine kb1 ((r_sI hq _ _ _).trans (congrArg (Option.map (cH p _)) e21)) ?_
    have h := iH_g h (gle_sI e21)
    obtain ⟨x25, z3, e25, hf⟩ := zbind2 hf
    obtain ⟨e25, h⟩ := cs_X1_requireArguments E h hq e25
    refine kbc e25 ?_
    rcases x25 with x26 | q27
    · have hf := zinl hf
      refine kel0_l ?_
      refine kb1 (a_Fr_R1 h hi) ?_
      obtain ⟨e, ee, hf⟩ := zbind hf
      obtain ⟨q1, q2, q3⟩ := cRow_spec ee
      refine kb1 (c_dR h.1 (t := 5) (n := 60) ((h.2.2.2.1.2.2.2.2.2.2.2.2.2.2.2.2.1 _ hi).2.2.2.2.2.1) (Or.inr (Or.inl rfl)) q1 q2) ?_
      obtain ⟨x32, e32, hf⟩ := zbind hf
      obtain ⟨hj, e32⟩ := cdL_spec e32
      refine kb1 ((c_dL h.1 (n := 7) q3 hj).trans (congrArg some e32)) ?_
      cases hf
      exact ⟨rfl, h⟩
    · have hf := zinr hf
      refine kel0_r ?_
      cases hf
      exact ⟨rfl, h⟩
  · have hf := zinr hf
    refine kel_r ?_
    cases hf
    exact ⟨rfl, h⟩
theorem cs_X0_invoice (E : zE) {s : cT} {g : zH} (h : iH p s g N) {p1 p2 p3 : Int32} {a : Nat} (ha : p.2 a = none) {r : Int32} (hf : c_X0_invoice E N p1 p2 p3 a s g = some (r, (s9, g9))) : f_X0_invoice E (p.1 1) p1 p2 p3 a (cH p s g) = some (r, cH p s9 g9) ∧ iH p s9 g9 N := by
  unfold c_X0_invoice at hf
  unfold f_X0_invoice f_X0_invoice_b0 f_X0_invoice_b14 f_X0_invoice_b18
  refine kb1 (a_X_ck h) ?_
  obtain ⟨x, z, e1, hf⟩ := zbind2 hf
  obtain ⟨e1, h⟩ := cs_X1_invoice E h e1
  refine kbc e1 ?_
  rcases x with v | q
  · have hf := zinl hf
    refine kel0_l ?_
    obtain ⟨g1, e2, hf⟩ := zbind hf
    refine kb1 ((r_sL ha _ _).trans (congrArg (Option.map (cH p _)) e2)) ?_
    have h := iH_g h (gle_sL e2)
    cases hf
    exact ⟨rfl, h⟩
  · have hf := zinr hf
    refine kel0_r ?_
    by_cases c1 : q.1 = 20
    · have hf := zif_t c1 hf
      refine kif_t c1 ?_
      cases hf
      exact ⟨rfl, h⟩
    · have hf := zif_f c1 hf
      refine kif_f c1 ?_
      by_cases c2 : q.1 = 21
      · have hf := zif_t c2 hf
        refine kif_t c2 ?_
        cases hf
        exact ⟨rfl, h⟩
      · have hf := zif_f c2 hf
        cases hf
end CM
section OI
variable {E : zE} {N : iN} {mo n a : Nat} {s : cT} {t : twS} {g : zH}
theorem y_inv {t : twS} {f m q : Nat} (hf : f < 8) (hm : m < 60) (hq : q < 7) : tdL t 1 (Int32.ofNat (1694 + 7 * (8 * m + f)) + Int32.ofNat q) = some (t.1 (1694 + 7 * (8 * m + f) + q)) := by
  rw [← Int32.ofNat_add, y_d (by omega)]
theorem o_invoice (h : Pr E N mo n s t g) (p1 p2 p3 : Int32) : Ww (c_X1_invoice E N p1 p2 p3 s g) fun z => Ww (t_X6_invoice E p1 p2 p3 t) fun w => Rs ec2 z.1 w.1 (tSc w.2 2) ∧ Po N mo n s t g z.2.1 w.2 z.2.2 := by
  obtain ⟨hB, hI, hR, hJ, hE, hr, hS, hO, hS3, hS8, hnn, h200⟩ := h
  obtain ⟨h60, h8, h16, h4⟩ := hI.1
  have hE1 : 1000 ≤ E.1 := by omega
  have hN1 : N.2.1 < 1000 := by omega
  have hN2 : N.2.2.1 < 1000 := by omega
  have hN3 : N.2.1 < 2 ^ 31 := by omega
  have hN4 : N.2.2.2.1 < 2 ^ 31 := by omega
  have rB : ∀ k m, k ≤ 300 → m ≤ 3000 → rm g k m := fun k m a b => rm_le hr a b
  have i6 : ((0 : Int64) ≤ p3.toInt64 ∧ p3.toInt64 ≤ 6) ↔ inF p3 7 := inF_r (n := 7) (by decide) (by decide)
  simp (maxDischargeDepth := 12) only [c_X1_invoice, w_bnd2, w_bind, w_some, w_ite, el_l, el_r, b1_some, b2_some, bi_if, bi_30, bi_0, zgd_bi, zgd0, zgd1, Classical.not_not, x_nA1, x_nA2, x_nA4, x_sI10, x_sI20, x_sI21, x_sI40, x_sI41, x_sI42, x_sI43, gb1, gb2, gb4, x_isP, x_isAm, x_isAc, x_isOp, x_isOT, rm_gt, rm_ge, rB, Nat.reduceAdd, Nat.reduceLeDiff, Nat.reduceLT, not_true_eq_false, not_false_eq_true, forall_const, false_implies, true_implies, and_true, true_and, and_self, i10, n10, true_or, or_true, false_or, or_false, false_and, and_false, w_rI hE1, w_rA hE1, w_fr hE1 hN1, w_ou hE1 hN2, x_isFr hN3, x_isPl hN4, x_isCl (r_moc hB) (show mo < 2 ^ 31 by omega)]
  refine ⟨fun i e hi => ⟨fun ha => ?_, fun ha => ?_⟩, fun hn => ?_⟩
  · obtain ⟨e2, hj⟩ := inF_nat ha.1
    obtain ⟨e3, hq⟩ := inF_nat (i6.mp ha.2)
    have ha2 := ha.2
    generalize p2.toNatClampNeg = m at e2 hj
    generalize p3.toNatClampNeg = q at e3 hq
    subst e e2 e3
    obtain ⟨c, h1, h2, h3⟩ := r_inv hB hi hj
    simp (maxDischargeDepth := 12) only [cRow_of (show m < 60 by omega) h1 h2, cdL_of hq (show 7 < 2 ^ 31 by decide), w_bnd2, w_bind, w_some, w_ite, el_l, el_r, b1_some, b2_some, bi_if, bi_30, bi_0, zgd_bi, zgd0, zgd1, Classical.not_not, x_nA1, x_nA2, x_nA4, x_sI10, x_sI20, x_sI21, x_sI40, x_sI41, x_sI42, x_sI43, gb1, gb2, gb4, x_isP, x_isAm, x_isAc, x_isOp, x_isOT, rm_gt, rm_ge, rB, Nat.reduceAdd, Nat.reduceLeDiff, Nat.reduceLT, not_true_eq_false, not_false_eq_true, forall_const, false_implies, true_implies, and_true, true_and, and_self, i10, n10, true_or, or_true, false_or, or_false, false_and, and_false, w_rI hE1, w_rA hE1, w_fr hE1 hN1, w_ou hE1 hN2, x_isFr hN3, x_isPl hN4, t_X6_invoice_b76, t_X6_invoice_b59, t_X6_invoice_b52, t_X6_invoice_b47, t_X6_invoice_b19, t_X6_invoice_b0, t_X6_invoice, not_true_eq_false, not_false_eq_true, forall_const, false_implies, true_implies, and_true, true_and, and_self, i10, n10, true_or, or_true, false_or, or_false, false_and, and_false, w_bnd2, w_bind, w_some, w_ite, w_thr, w_thr0, w_thr1, y_thr0, y_thr1, b1_some, b2_some, bi_0, zgd_bi, zgd0, zgd1, Classical.not_not, uSc_1, uSt_1, uAm_1, uAr_1, tS_s, tS_st, y_isCell, y_inRange, bi_if, bi_30, y_isOver, y_isFr (t := uSc t 2 0) hB hN3, inF_n (show i < 2 ^ 31 by omega), hi, y_isCl (t := uSc t 2 0) hB (show mo < 2 ^ 31 by omega), inF_n (show m < 2 ^ 31 by omega), hj, ha2, y_ivr, y_inv (show i < 8 by omega) (show m < 60 by omega) hq, h3 q hq]
    refine ⟨Rs_l rfl, Po_ro hB hI rfl (okT_thr (okT_rfl t) 0) ?_⟩
    exact gxw (gx_gt1 (gx_gt1 (gx_rfl g))) (by decide) (by decide)
  · subst e
    by_cases hc : inF p2 mo
    · have hq : ¬ ((0 : Int64) ≤ p3.toInt64 ∧ p3.toInt64 ≤ 6) := fun q => ha ⟨hc, q⟩
      simp (maxDischargeDepth := 12) only [t_X6_invoice_b76, t_X6_invoice_b59, t_X6_invoice_b52, t_X6_invoice_b47, t_X6_invoice_b19, t_X6_invoice_b0, t_X6_invoice, not_true_eq_false, not_false_eq_true, forall_const, false_implies, true_implies, and_true, true_and, and_self, i10, n10, true_or, or_true, false_or, or_false, false_and, and_false, w_bnd2, w_bind, w_some, w_ite, w_thr, w_thr0, w_thr1, y_thr0, y_thr1, b1_some, b2_some, bi_0, zgd_bi, zgd0, zgd1, Classical.not_not, uSc_1, uSt_1, uAm_1, uAr_1, tS_s, tS_st, y_isCell, y_inRange, bi_if, bi_30, y_isOver, y_isFr (t := uSc t 2 0) hB hN3, inF_n (show i < 2 ^ 31 by omega), hi, y_isCl (t := uSc t 2 0) hB (show mo < 2 ^ 31 by omega), hc, hq]
      exact ⟨Rs21, (Po_ro hB hI rfl (okT_thr (okT_thr (okT_rfl t) _) _) (by first | exact gxw (gx_rfl _) (by decide) (by decide) | exact gxw (gx_ge1 (gx_rfl _)) (by decide) (by decide) | exact gxw (gx_gt1 (gx_rfl _)) (by decide) (by decide) | exact gxw (gx_ge1 (gx_gt1 (gx_rfl _))) (by decide) (by decide) | exact gxw (gx_gt1 (gx_gt1 (gx_rfl _))) (by decide) (by decide) | exact gxw (gx_ge1 (gx_gt1 (gx_gt1 (gx_rfl _)))) (by decide) (by decide) | exact gxw (gx_gt1 (gx_gt1 (gx_gt1 (gx_rfl _)))) (by decide) (by decide) | exact gxw (gx_ge1 (gx_gt1 (gx_gt1 (gx_gt1 (gx_rfl _))))) (by decide) (by decide) | exact gxw (gx_gt1 (gx_gt1 (gx_gt1 (gx_gt1 (gx_rfl _))))) (by decide) (by decide) | exact gxw (gx_ge1 (gx_gt1 (gx_gt1 (gx_gt1 (gx_gt1 (gx_rfl _)))))) (by decide) (by decide) | exact gxw (gx_gt1 (gx_gt1 (gx_gt1 (gx_gt1 (gx_gt1 (gx_rfl _)))))) (by decide) (by decide) | exact gxw (gx_ge1 (gx_gt1 (gx_gt1 (gx_gt1 (gx_gt1 (gx_gt1 (gx_rfl _))))))) (by decide) (by decide)))⟩
    · simp (maxDischargeDepth := 12) only [t_X6_invoice_b76, t_X6_invoice_b59, t_X6_invoice_b52, t_X6_invoice_b47, t_X6_invoice_b19, t_X6_invoice_b0, t_X6_invoice, not_true_eq_false, not_false_eq_true, forall_const, false_implies, true_implies, and_true, true_and, and_self, i10, n10, true_or, or_true, false_or, or_false, false_and, and_false, w_bnd2, w_bind, w_some, w_ite, w_thr, w_thr0, w_thr1, y_thr0, y_thr1, b1_some, b2_some, bi_0, zgd_bi, zgd0, zgd1, Classical.not_not, uSc_1, uSt_1, uAm_1, uAr_1, tS_s, tS_st, y_isCell, y_inRange, bi_if, bi_30, y_isOver, y_isFr (t := uSc t 2 0) hB hN3, inF_n (show i < 2 ^ 31 by omega), hi, y_isCl (t := uSc t 2 0) hB (show mo < 2 ^ 31 by omega), hc]
      exact ⟨Rs21, (Po_ro hB hI rfl (okT_thr (okT_thr (okT_rfl t) _) _) (by first | exact gxw (gx_rfl _) (by decide) (by decide) | exact gxw (gx_ge1 (gx_rfl _)) (by decide) (by decide) | exact gxw (gx_gt1 (gx_rfl _)) (by decide) (by decide) | exact gxw (gx_ge1 (gx_gt1 (gx_rfl _))) (by decide) (by decide) | exact gxw (gx_gt1 (gx_gt1 (gx_rfl _))) (by decide) (by decide) | exact gxw (gx_ge1 (gx_gt1 (gx_gt1 (gx_rfl _)))) (by decide) (by decide) | exact gxw (gx_gt1 (gx_gt1 (gx_gt1 (gx_rfl _)))) (by decide) (by decide) | exact gxw (gx_ge1 (gx_gt1 (gx_gt1 (gx_gt1 (gx_rfl _))))) (by decide) (by decide) | exact gxw (gx_gt1 (gx_gt1 (gx_gt1 (gx_gt1 (gx_rfl _))))) (by decide) (by decide) | exact gxw (gx_ge1 (gx_gt1 (gx_gt1 (gx_gt1 (gx_gt1 (gx_rfl _)))))) (by decide) (by decide) | exact gxw (gx_gt1 (gx_gt1 (gx_gt1 (gx_gt1 (gx_gt1 (gx_rfl _)))))) (by decide) (by decide) | exact gxw (gx_ge1 (gx_gt1 (gx_gt1 (gx_gt1 (gx_gt1 (gx_gt1 (gx_rfl _))))))) (by decide) (by decide)))⟩
  · simp (maxDischargeDepth := 12) only [t_X6_invoice_b76, t_X6_invoice_b59, t_X6_invoice_b52, t_X6_invoice_b47, t_X6_invoice_b19, t_X6_invoice_b0, t_X6_invoice, not_true_eq_false, not_false_eq_true, forall_const, false_implies, true_implies, and_true, true_and, and_self, i10, n10, true_or, or_true, false_or, or_false, false_and, and_false, w_bnd2, w_bind, w_some, w_ite, w_thr, w_thr0, w_thr1, y_thr0, y_thr1, b1_some, b2_some, bi_0, zgd_bi, zgd0, zgd1, Classical.not_not, uSc_1, uSt_1, uAm_1, uAr_1, tS_s, tS_st, y_isCell, y_inRange, bi_if, bi_30, y_isOver, y_isFr (t := uSc t 2 0) hB hN3, hn]
    exact ⟨Rs20, (Po_ro hB hI rfl (okT_thr (okT_thr (okT_rfl t) _) _) (by first | exact gxw (gx_rfl _) (by decide) (by decide) | exact gxw (gx_ge1 (gx_rfl _)) (by decide) (by decide) | exact gxw (gx_gt1 (gx_rfl _)) (by decide) (by decide) | exact gxw (gx_ge1 (gx_gt1 (gx_rfl _))) (by decide) (by decide) | exact gxw (gx_gt1 (gx_gt1 (gx_rfl _))) (by decide) (by decide) | exact gxw (gx_ge1 (gx_gt1 (gx_gt1 (gx_rfl _)))) (by decide) (by decide) | exact gxw (gx_gt1 (gx_gt1 (gx_gt1 (gx_rfl _)))) (by decide) (by decide) | exact gxw (gx_ge1 (gx_gt1 (gx_gt1 (gx_gt1 (gx_rfl _))))) (by decide) (by decide) | exact gxw (gx_gt1 (gx_gt1 (gx_gt1 (gx_gt1 (gx_rfl _))))) (by decide) (by decide) | exact gxw (gx_ge1 (gx_gt1 (gx_gt1 (gx_gt1 (gx_gt1 (gx_rfl _)))))) (by decide) (by decide) | exact gxw (gx_gt1 (gx_gt1 (gx_gt1 (gx_gt1 (gx_gt1 (gx_rfl _)))))) (by decide) (by decide) | exact gxw (gx_ge1 (gx_gt1 (gx_gt1 (gx_gt1 (gx_gt1 (gx_gt1 (gx_rfl _))))))) (by decide) (by decide)))⟩
theorem v_invoice (h : Pr E N mo n s t g) (ho : oC g a) (p1 p2 p3 : Int32) : Ww (c_X0_invoice E N p1 p2 p3 a s g) fun z => Ww (t_X6_invoice E p1 p2 p3 t) fun w => Wr (tSc w.2 2) (w.1) a z.1 z.2.2 ∧ Pw N mo n s t g a z.2.1 w.2 z.2.2 :=
  wr2 (cv := fun v => v) (o_invoice h p1 p2 p3) ho
/-- behind a wrapped closing -/
def PwC (N : iN) (mo n : Nat) (s : cT) (t : twS) (g : zH) (a : Nat) (s1 : cT) (t1 : twS) (g1 : zH) : Prop := RB s1 N.1 N.2.1 N.2.2.1 (mo + 1) t1.1 ∧ IV t1.1 N.2.1 N.2.2.1 N.2.2.2.1 (mo + 1) (n + 1) ∧ okM N mo g.2.1 s s1 ∧ okT t t1 ∧ gxp g g1 a
theorem v_closeMonth (h : Pr E N mo n s t g) (ho : oC g a) (hX : N.1 + 200 ≤ XT) (hfr : ∀ a, g.2.1 ≤ a → (s.1 (XT + a)).1 = 0) : Ww (c_X0_closeMonth E N a s g) fun z => Ww (t_X6_closeMonth E t) fun w => Wr (tSc w.2 2) (w.1.toInt64) a z.1 z.2.2 ∧ (Pw N mo n s t g a z.2.1 w.2 z.2.2 ∨ PwC N mo n s t g a z.2.1 w.2 z.2.2) := by
  unfold c_X0_closeMonth
  rw [w_bnd2]
  refine w_mono (o_closeMonth h hX hfr) fun z hz => ?_
  obtain ⟨r, s1, g1⟩ := z
  obtain ⟨w, ew, hw, hP⟩ := hz
  have hx : gx g g1 300 3000 := hP.elim (fun q => q.2.2.2.2) (fun q => q.2.2.2.2)
  have mk : ∀ g2, gxp g g2 a → (Pw N mo n s t g a s1 w.2 g2 ∨ PwC N mo n s t g a s1 w.2 g2) := fun g2 k => hP.elim (fun q => Or.inl ⟨q.1, q.2.1, q.2.2.1, q.2.2.2.1, k⟩) (fun q => Or.inr ⟨q.1, q.2.1, q.2.2.1, q.2.2.2.1, k⟩)
  have hp := gxp_gx hx ho
  cases r with
  | inl v =>
    obtain ⟨e1, e2⟩ : tSc w.2 2 = 0 ∧ v = w.1 := hw
    obtain ⟨g2, f1, f2, f3, f4, f5⟩ := oC_sL hp.2.2.1 v.toInt64
    show Ww ((sL g1 a (0 : Int32) v.toInt64).bind fun g1 => some ((0 : Int32), (s1, g1))) _
    rw [f1]
    exact ⟨_, rfl, w, ew, ⟨e1.symm, fun _ => by rw [← e2]; exact f2⟩, mk g2 ⟨by rw [f4]; exact hp.1, fun b hb hn => (f5 b hn).trans (hp.2.1 b hb hn), f3, by rw [f4]; exact hp.2.2.2.1, by rw [f4]; exact hp.2.2.2.2⟩⟩
  | inr q =>
    obtain ⟨e1, e2, e3⟩ : tSc w.2 2 = ecS q.1 ∧ tSc w.2 2 ≠ 0 ∧ (q.1 = 20 ∨ q.1 = 21 ∨ q.1 = 22) := hw
    have e4 : q.1 = 22 := Decidable.by_contra fun n => e2 (e1.trans (if_neg n))
    show Ww (if q.1 = 22 then some ((1 : Int32), (s1, g1)) else none) _
    rw [if_pos e4]
    exact ⟨_, rfl, w, ew, ⟨by rw [e1, e4]; rfl, fun h => absurd (show (1 : Int32) = 0 from h) (by decide)⟩, mk g1 hp⟩
end OI
