/-! formatInvoice: up to the text *(c_fmt: the franchisee, or the exception)* -/
set_option maxRecDepth 100000
def c_fmt (E : zE) (N : iN) (p1 p2 : Int32) (s : cT) (g : zH) : Option ((Nat ⊕ (Nat × Nat)) × (cT × zH)) :=
  bnd2 (c_X1_franchisee E N p1 s g) fun x4 z1 =>
  Sum.elim (fun x5 => (
    bnd2 (nA z1.2 3 (1 : Int32) (.inl fun _ => 0)) fun q7 g8 =>
    bnd2 (c_X1_isClosed E N p2 z1.1 g8) fun x13 z2 =>
    (zgd .boolean x13).bind fun _ =>
    (sI z2.2 q7 3 (0 : Int32) x13).bind fun g15 =>
    bnd2 (c_X1_requireArguments E N q7 z2.1 g15) fun x19 z3 =>
    Sum.elim (fun _ => some (.inl x5, (z3.1, z3.2))) (fun q => some (.inr q, (z3.1, z3.2))) x19
  )) (fun q6 => some (.inr q6, (z1.1, z1.2))) x4
def fmT (E : zE) (x : Nat) (p2 : Int32) (x5 : Nat) (h17 : zH) : Option ((Int32 ⊕ (Nat × Nat)) × zH) :=
  (gR h17 x 0 5).bind fun x22 =>
  (cko h17 x22 18).bind fun _ =>
  bnd2 (f_J8_setLength E x22 (0 : Int32) h17) fun _ h25 =>
  f_X1_formatInvoice_l31 E E.1 x p2 x5 (0 : Int32) h25
def fmR (E : zE) (p : cP) (N : iN) (p2 : Int32) (H : zH) (r : Nat ⊕ (Nat × Nat)) : Option ((Int32 ⊕ (Nat × Nat)) × zH) := match r with
  | .inl i => fmT E (p.1 1) p2 (p.1 (N.1 + 130 + i)) H
  | .inr q => some (.inr q, H)
section CM
variable {p : cP} {N : iN} {s9 : cT} {g9 : zH}
theorem cs_fmt (E : zE) {s : cT} {g : zH} (h : iH p s g N) {p1 p2 : Int32} {r : Nat ⊕ (Nat × Nat)} (hf : c_fmt E N p1 p2 s g = some (r, (s9, g9))) : f_X1_formatInvoice E (p.1 1) p1 p2 (cH p s g) = fmR E p N p2 (cH p s9 g9) r ∧ iH p s9 g9 N := by
  unfold c_fmt at hf
  unfold f_X1_formatInvoice f_X1_formatInvoice_b0
  refine kb1 (a_X_ck h) ?_
  obtain ⟨x4, z1, e1, hf⟩ := zbind2 hf
  obtain ⟨e1, h, hr_x4⟩ := cs_X1_franchisee E h e1
  refine kbc e1 ?_
  rcases x4 with x5 | q6
  · have hf := zinl hf
    have hi := hr_x4 _ rfl
    refine kel_l ?_
    obtain ⟨q7, g8, e8, hf⟩ := zbind2 hf
    have hq := hq_nA h e8
    refine kbc (k_nA h e8) ?_
    have h := iH_g h (gle_nA e8)
    refine kb1 (a_X_ck h) ?_
    obtain ⟨x12, z2, e2, hf⟩ := zbind2 hf
    obtain ⟨e2, h⟩ := cs_X1_isClosed E h e2
    refine kbc e2 ?_
    obtain ⟨_, e3, hf⟩ := zbind hf
    refine kb1 e3 ?_
    obtain ⟨g14, e14, hf⟩ := zbind hf
    refine kb1 ((r_sI hq _ _ _).trans (congrArg (Option.map (cH p _)) e14)) ?_
    have h := iH_g h (gle_sI e14)
    obtain ⟨x18, z3, e18, hf⟩ := zbind2 hf
    obtain ⟨e18, h⟩ := cs_X1_requireArguments E h hq e18
    refine kbc e18 ?_
    rcases x18 with x19 | q20
    · have hf := zinl hf
      refine kel0_l ?_
      cases hf
      exact ⟨rfl, h⟩
    · have hf := zinr hf
      refine kel0_r ?_
      cases hf
      exact ⟨rfl, h⟩
  · have hf := zinr hf
    refine kel_r ?_
    cases hf
    exact ⟨rfl, h⟩
end CM
section OO
variable {E : zE} {N : iN} {mo n a : Nat} {s : cT} {t : twS} {g : zH}
def fmO (E : zE) (N : iN) (mo : Nat) (t : twS) (p1 p2 : Int32) (r : Nat ⊕ (Nat × Nat)) : Prop := match r with
  | .inl i => ∃ m, p1 = Int32.ofNat i ∧ p2 = Int32.ofNat m ∧ i < N.2.1 ∧ m < mo ∧ t_X6_formatInvoice E p1 p2 t = t_X6_formatInvoice_l56 E E.1 p1 p2 0 (uSc (uSc t 2 0) 7 0)
  | .inr q => ∃ k w, t_X6_formatInvoice E p1 p2 t = some (w, uSc (uSc t 2 0) 2 k) ∧ k = ec2 q.1 ∧ (q.1 = 20 ∨ q.1 = 21)
theorem o_fmt (h : Pr E N mo n s t g) (p1 p2 : Int32) : Ww (c_fmt E N p1 p2 s g) fun z => z.2.1 = s ∧ gx g z.2.2 300 3000 ∧ fmO E N mo t p1 p2 z.1 := by
  obtain ⟨hB, hI, hR, hJ, hE, hr, hS, hO, hS3, hS8, hnn, h200⟩ := h
  obtain ⟨h60, h8, h16, h4⟩ := hI.1
  have hE1 : 1000 ≤ E.1 := by omega
  have hN1 : N.2.1 < 1000 := by omega
  have hN2 : N.2.2.1 < 1000 := by omega
  have hN3 : N.2.1 < 2 ^ 31 := by omega
  have hN4 : N.2.2.2.1 < 2 ^ 31 := by omega
  have rB : ∀ k m, k ≤ 300 → m ≤ 3000 → rm g k m := fun k m a b => rm_le hr a b
  simp (maxDischargeDepth := 12) only [c_fmt, w_bnd2, w_bind, w_some, w_ite, el_l, el_r, b1_some, b2_some, bi_if, bi_30, bi_0, zgd_bi, zgd0, zgd1, Classical.not_not, x_nA1, x_nA2, x_nA4, x_sI10, x_sI20, x_sI21, x_sI40, x_sI41, x_sI42, x_sI43, gb1, gb2, gb4, x_isP, x_isAm, x_isAc, x_isOp, x_isOT, rm_gt, rm_ge, rB, Nat.reduceAdd, Nat.reduceLeDiff, Nat.reduceLT, not_true_eq_false, not_false_eq_true, forall_const, false_implies, true_implies, and_true, true_and, and_self, i10, n10, true_or, or_true, false_or, or_false, false_and, and_false, w_rI hE1, w_rA hE1, w_fr hE1 hN1, w_ou hE1 hN2, x_isFr hN3, x_isPl hN4, x_isCl (r_moc hB) (show mo < 2 ^ 31 by omega)]
  refine ⟨fun i e hi => ⟨fun ha => ?_, fun ha => ?_⟩, fun hn => ?_⟩
  · subst e
    obtain ⟨e2, hj⟩ := inF_nat ha
    refine ⟨(by first | exact gxw (gx_rfl _) (by decide) (by decide) | exact gxw (gx_ge1 (gx_rfl _)) (by decide) (by decide) | exact gxw (gx_gt1 (gx_rfl _)) (by decide) (by decide) | exact gxw (gx_ge1 (gx_gt1 (gx_rfl _))) (by decide) (by decide) | exact gxw (gx_gt1 (gx_gt1 (gx_rfl _))) (by decide) (by decide) | exact gxw (gx_ge1 (gx_gt1 (gx_gt1 (gx_rfl _)))) (by decide) (by decide) | exact gxw (gx_gt1 (gx_gt1 (gx_gt1 (gx_rfl _)))) (by decide) (by decide) | exact gxw (gx_ge1 (gx_gt1 (gx_gt1 (gx_gt1 (gx_rfl _))))) (by decide) (by decide) | exact gxw (gx_gt1 (gx_gt1 (gx_gt1 (gx_gt1 (gx_rfl _))))) (by decide) (by decide) | exact gxw (gx_ge1 (gx_gt1 (gx_gt1 (gx_gt1 (gx_gt1 (gx_rfl _)))))) (by decide) (by decide) | exact gxw (gx_gt1 (gx_gt1 (gx_gt1 (gx_gt1 (gx_gt1 (gx_rfl _)))))) (by decide) (by decide) | exact gxw (gx_ge1 (gx_gt1 (gx_gt1 (gx_gt1 (gx_gt1 (gx_gt1 (gx_rfl _))))))) (by decide) (by decide)), p2.toNatClampNeg, rfl, e2, hi, hj, ?_⟩
    unfold t_X6_formatInvoice t_X6_formatInvoice_b0 t_X6_formatInvoice_b19 t_X6_formatInvoice_b40
    rw [y_isFr (t := uSc t 2 0) hB hN3, b2_some, bi_t (inF_of hi (by omega)), if_neg (by decide), y_thr0, b2_some, if_pos rfl, y_isCl (t := uSc t 2 0) hB (show mo < 2 ^ 31 by omega), b2_some, bi_t ha, if_neg (by decide), y_thr0, b2_some, if_pos rfl]
  · subst e
    refine ⟨(by first | exact gxw (gx_rfl _) (by decide) (by decide) | exact gxw (gx_ge1 (gx_rfl _)) (by decide) (by decide) | exact gxw (gx_gt1 (gx_rfl _)) (by decide) (by decide) | exact gxw (gx_ge1 (gx_gt1 (gx_rfl _))) (by decide) (by decide) | exact gxw (gx_gt1 (gx_gt1 (gx_rfl _))) (by decide) (by decide) | exact gxw (gx_ge1 (gx_gt1 (gx_gt1 (gx_rfl _)))) (by decide) (by decide) | exact gxw (gx_gt1 (gx_gt1 (gx_gt1 (gx_rfl _)))) (by decide) (by decide) | exact gxw (gx_ge1 (gx_gt1 (gx_gt1 (gx_gt1 (gx_rfl _))))) (by decide) (by decide) | exact gxw (gx_gt1 (gx_gt1 (gx_gt1 (gx_gt1 (gx_rfl _))))) (by decide) (by decide) | exact gxw (gx_ge1 (gx_gt1 (gx_gt1 (gx_gt1 (gx_gt1 (gx_rfl _)))))) (by decide) (by decide) | exact gxw (gx_gt1 (gx_gt1 (gx_gt1 (gx_gt1 (gx_gt1 (gx_rfl _)))))) (by decide) (by decide) | exact gxw (gx_ge1 (gx_gt1 (gx_gt1 (gx_gt1 (gx_gt1 (gx_gt1 (gx_rfl _))))))) (by decide) (by decide)), 2, 0, ?_, rfl, Or.inr rfl⟩
    unfold t_X6_formatInvoice t_X6_formatInvoice_b0 t_X6_formatInvoice_b19 t_X6_formatInvoice_b40 t_X6_formatInvoice_b47
    rw [y_isFr (t := uSc t 2 0) hB hN3, b2_some, bi_t (inF_of hi (by omega)), if_neg (by decide), y_thr0, b2_some, if_pos rfl, y_isCl (t := uSc t 2 0) hB (show mo < 2 ^ 31 by omega), b2_some, bi_f ha, if_pos rfl, y_thr1, b2_some, if_neg (by decide)]
  · refine ⟨(by first | exact gxw (gx_rfl _) (by decide) (by decide) | exact gxw (gx_ge1 (gx_rfl _)) (by decide) (by decide) | exact gxw (gx_gt1 (gx_rfl _)) (by decide) (by decide) | exact gxw (gx_ge1 (gx_gt1 (gx_rfl _))) (by decide) (by decide) | exact gxw (gx_gt1 (gx_gt1 (gx_rfl _))) (by decide) (by decide) | exact gxw (gx_ge1 (gx_gt1 (gx_gt1 (gx_rfl _)))) (by decide) (by decide) | exact gxw (gx_gt1 (gx_gt1 (gx_gt1 (gx_rfl _)))) (by decide) (by decide) | exact gxw (gx_ge1 (gx_gt1 (gx_gt1 (gx_gt1 (gx_rfl _))))) (by decide) (by decide) | exact gxw (gx_gt1 (gx_gt1 (gx_gt1 (gx_gt1 (gx_rfl _))))) (by decide) (by decide) | exact gxw (gx_ge1 (gx_gt1 (gx_gt1 (gx_gt1 (gx_gt1 (gx_rfl _)))))) (by decide) (by decide) | exact gxw (gx_gt1 (gx_gt1 (gx_gt1 (gx_gt1 (gx_gt1 (gx_rfl _)))))) (by decide) (by decide) | exact gxw (gx_ge1 (gx_gt1 (gx_gt1 (gx_gt1 (gx_gt1 (gx_gt1 (gx_rfl _))))))) (by decide) (by decide)), 1, 0, ?_, rfl, Or.inl rfl⟩
    unfold t_X6_formatInvoice t_X6_formatInvoice_b0 t_X6_formatInvoice_b19 t_X6_formatInvoice_b47
    rw [y_isFr (t := uSc t 2 0) hB hN3, b2_some, bi_f hn, if_pos rfl, y_thr1, b2_some, if_neg (by decide)]
end OO
