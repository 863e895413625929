/-! openOutlet: up to the new outlet -/
set_option maxRecDepth 100000
/-- the outlet is made -/
def opT (E : zE) (x : Nat) (p1 x23 : Int32) (h : zH) : Option ((Int32 ⊕ (Nat × Nat)) × zH) :=
  (gR h x 0 1).bind fun x54 =>
  (gR h x54 4 1).bind fun x56 =>
  bnd2 (nO h 13 3 [.int 0, .int 0, .long 0]) fun q58 h59 =>
  bnd2 (f_X14_init_2 E q58 x23 p1 h59) fun _ h61 =>
  (cko h61 x56 15).bind fun _ =>
  bnd2 (f_J2_add E x56 q58 h61) fun _ h65 =>
  (gR h65 x 0 1).bind fun x68 =>
  (gR h65 x68 4 1).bind fun x70 =>
  (cko h65 x70 15).bind fun _ =>
  bnd2 (f_J2_size E x70 h65) fun x75 h73 =>
  some (.inl (x75 - (1 : Int32)), h73)
def c_open (E : zE) (N : iN) (p1 p2 p3 : Int32) (s : cT) (g : zH) : Option (((Int32 ⊕ Int32) ⊕ (Nat × Nat)) × (cT × zH)) :=
  bnd2 (c_X1_franchisee E N p1 s g) fun x4 z1 =>
  Sum.elim (fun x5 => (
    bnd2 (nA z1.2 3 (1 : Int32) (.inl fun _ => 0)) fun q7 g8 =>
    bnd2 (c_X1_isPlace E N p2 p3 z1.1 g8) fun x12 z2 =>
    (zgd .boolean x12).bind fun _ =>
    (sI z2.2 q7 3 (0 : Int32) x12).bind fun g14 =>
    bnd2 (c_X1_requireArguments E N q7 z2.1 g14) fun x18 z3 =>
    Sum.elim (fun _ => (
      bnd2 (c_X1_cell E N p2 p3 z3.1 z3.2) fun x23 z4 =>
      bnd2 (c_X11_isActive E N x5 z4.1 z4.2) fun x27 z5 =>
      if x27 = 0 then some (.inl (.inl (-2 : Int32)), (z5.1, z5.2)) else (
      (cdI z5.1 (N.1 + 16) 900 x23).bind fun x35 =>
      if x35 = p1 then (
        bnd2 (c_X4_hasOutlet E N x23 z5.1 z5.2) fun x43 z6 =>
        if x43 = 0 then (if Int32.ofNat N.2.2.1 = (16 : Int32) then some (.inl (.inl (-3 : Int32)), (z6.1, z6.2)) else some (.inl (.inr x23), (z6.1, z6.2))) else some (.inl (.inl (-2 : Int32)), (z6.1, z6.2))
      ) else some (.inl (.inl (-2 : Int32)), (z5.1, z5.2)))
    )) (fun q => some (.inr q, (z3.1, z3.2))) x18
  )) (fun q => some (.inr q, (z1.1, z1.2))) x4
def opR (E : zE) (x : Nat) (p1 : Int32) (H : zH) (r : (Int32 ⊕ Int32) ⊕ (Nat × Nat)) : Option ((Int32 ⊕ (Nat × Nat)) × zH) := match r with
  | .inl (.inl v) => some (.inl v, H)
  | .inl (.inr ce) => opT E x p1 ce H
  | .inr q => some (.inr q, H)
section CM
variable {p : cP} {N : iN} {s9 : cT} {g9 : zH}
theorem cs_open (E : zE) {s : cT} {g : zH} (h : iH p s g N) {p1 p2 p3 : Int32} {r : (Int32 ⊕ Int32) ⊕ (Nat × Nat)} (hf : c_open E N p1 p2 p3 s g = some (r, (s9, g9))) : f_X1_openOutlet E (p.1 1) p1 p2 p3 (cH p s g) = opR E (p.1 1) p1 (cH p s9 g9) r ∧ iH p s9 g9 N := by
  unfold c_open at hf
  unfold f_X1_openOutlet f_X1_openOutlet_b0 f_X1_openOutlet_b65
  refine kb1 (a_X_ck h) ?_
  obtain ⟨x4, z1, e1, hf⟩ := zbind2 hf
  obtain ⟨e1, h, hr_x4⟩ := cs_X1_franchisee E h e1
  refine kbc e1 ?_
  rcases x4 with x5 | q6
  · have hf := zinl hf
    have hi := hr_x4 _ rfl
    refine kel_l ?_
    obtain ⟨q7, g8, e8, hf⟩ := zbind2 hf
    have hq := hq_nA h e8
    refine kbc (k_nA h e8) ?_
    have h := iH_g h (gle_nA e8)
    obtain ⟨x12, z2, e2, hf⟩ := zbind2 hf
    obtain ⟨e2, h⟩ := cs_X1_isPlace E h e2
    refine kbc e2 ?_
    obtain ⟨_, e3, hf⟩ := zbind hf
    refine kb1 e3 ?_
    obtain ⟨g14, e14, hf⟩ := zbind hf
    refine kb1 ((r_sI hq _ _ _).trans (congrArg (Option.map (cH p _)) e14)) ?_
    have h := iH_g h (gle_sI e14)
    obtain ⟨x18, z3, e18, hf⟩ := zbind2 hf
    obtain ⟨e18, h⟩ := cs_X1_requireArguments E h hq e18
    refine kbc e18 ?_
    rcases x18 with x19 | q20
    · have hf := zinl hf
      refine kel0_l ?_
      obtain ⟨x23, z4, e23, hf⟩ := zbind2 hf
      obtain ⟨e23, h⟩ := cs_X1_cell E h e23
      refine kbc e23 ?_
      refine kb1 (a_Fr_ck h hi) ?_
      obtain ⟨x27, z5, e27, hf⟩ := zbind2 hf
      obtain ⟨e27, h⟩ := cs_X11_isActive E h hi e27
      refine kbc e27 ?_
      by_cases c1 : x27 = 0
      · have hf := zif_t c1 hf
        refine kif_t c1 ?_
        cases hf
        exact ⟨rfl, h⟩
      · have hf := zif_f c1 hf
        refine kif_f c1 ?_
        refine kb1 (a_X_R1 h) ?_
        refine kb1 (a_Bk_R2 h) ?_
        refine kb1 (a_Gr_R0 h) ?_
        obtain ⟨x35, e35, hf⟩ := zbind hf
        obtain ⟨hj, e35⟩ := cdI_spec e35
        refine kb1 ((a_own_d h hj).trans (congrArg some e35)) ?_
        by_cases c2 : x35 = p1
        · have hf := zif_t c2 hf
          refine kif_t c2 ?_
          refine kb1 (a_X_R1 h) ?_
          refine kb1 (a_Bk_ck h) ?_
          obtain ⟨x43, z6, e43, hf⟩ := zbind2 hf
          obtain ⟨e43, h⟩ := cs_X4_hasOutlet E h e43
          refine kbc e43 ?_
          by_cases c3 : x43 = 0
          · have hf := zif_t c3 hf
            refine kif_t c3 ?_
            refine kb1 (a_X_R1 h) ?_
            refine kb1 (a_Bk_R1 h) ?_
            refine kb1 (a_OL_ck h) ?_
            refine kbc (a_OL_n h E) ?_
            by_cases c4 : Int32.ofNat N.2.2.1 = (16 : Int32)
            · have hf := zif_t c4 hf
              refine kif_t c4 ?_
              cases hf
              exact ⟨rfl, h⟩
            · have hf := zif_f c4 hf
              refine kif_f c4 ?_
              cases hf
              exact ⟨rfl, h⟩
          · have hf := zif_f c3 hf
            refine kif_f c3 ?_
            cases hf
            exact ⟨rfl, h⟩
        · have hf := zif_f c2 hf
          refine kif_f c2 ?_
          cases hf
          exact ⟨rfl, h⟩
    · have hf := zinr hf
      refine kel0_r ?_
      cases hf
      exact ⟨rfl, h⟩
  · have hf := zinr hf
    refine kel_r ?_
    cases hf
    exact ⟨rfl, h⟩
end CM
section OO
variable {E : zE} {N : iN} {mo n a : Nat} {s : cT} {t : twS} {g : zH}
/-- the twin's array with one more outlet -/
def puO (f : Nat → Int64) (no : Nat) (i xx yy : Nat) : Nat → Int64 := fun z => if z = 3 then Int64.ofNat (no + 1) else if z = 186 + 4 * no + 3 then 0 else if z = 186 + 4 * no + 2 then Int64.ofNat yy else if z = 186 + 4 * no + 1 then Int64.ofNat xx else if z = 186 + 4 * no + 0 then Int64.ofNat i else f z
theorem y_put {t : twS} {no : Nat} (hno : no < 16) (h3 : t.1 3 = Int64.ofNat no) {i xx yy : Nat} (hi : i < 8) (hx : xx < 30) (hy : yy < 30) : t_X6_putOutlet E (0 : Int32) (Int32.ofNat i) (Int32.ofNat xx) (Int32.ofNat yy) t = some ((), uSt t (puO t.1 no i xx yy)) := by
  have e3 : ∀ u : twS, tdL u 1 ((5054 : Int32) * (0 : Int32) + (3 : Int32)) = some (u.1 3) := fun u => y_d (k := 3) (by decide)
  have s3 : ∀ (u : twS) (v : Int64), tsL u 1 ((5054 : Int32) * (0 : Int32) + (3 : Int32)) v = some (uSt u (va_up u.1 3 v)) := fun u v => y_s (k := 3) (by decide)
  have sk : ∀ (k : Nat) (u : twS) (v : Int64), k < 4 → tsL u 1 ((5054 : Int32) * (0 : Int32) + (186 : Int32) + (4 : Int32) * Int32.ofNat no + Int32.ofNat k) v = some (uSt u (va_up u.1 (186 + 4 * no + k) v)) := fun k u v hk => by
    rw [show (5054 : Int32) * (0 : Int32) + (186 : Int32) = Int32.ofNat 186 by decide, show (4 : Int32) = Int32.ofNat 4 from rfl, ← Int32.ofNat_mul, ← Int32.ofNat_add, ← Int32.ofNat_add, y_s (by omega)]
  have s0' : ∀ (u : twS) (v : Int64), tsL u 1 ((5054 : Int32) * (0 : Int32) + (186 : Int32) + (4 : Int32) * Int32.ofNat no + (0 : Int32)) v = some (uSt u (va_up u.1 (186 + 4 * no + 0) v)) := fun u v => sk 0 u v (by decide)
  have s1' : ∀ (u : twS) (v : Int64), tsL u 1 ((5054 : Int32) * (0 : Int32) + (186 : Int32) + (4 : Int32) * Int32.ofNat no + (1 : Int32)) v = some (uSt u (va_up u.1 (186 + 4 * no + 1) v)) := fun u v => sk 1 u v (by decide)
  have s2' : ∀ (u : twS) (v : Int64), tsL u 1 ((5054 : Int32) * (0 : Int32) + (186 : Int32) + (4 : Int32) * Int32.ofNat no + (2 : Int32)) v = some (uSt u (va_up u.1 (186 + 4 * no + 2) v)) := fun u v => sk 2 u v (by decide)
  have s3' : ∀ (u : twS) (v : Int64), tsL u 1 ((5054 : Int32) * (0 : Int32) + (186 : Int32) + (4 : Int32) * Int32.ofNat no + (3 : Int32)) v = some (uSt u (va_up u.1 (186 + 4 * no + 3) v)) := fun u v => sk 3 u v (by decide)
  unfold t_X6_putOutlet t_X6_putOutlet_b0
  rw [e3, b1_some, h3, i64_32, s0', b1_some, s1', b1_some, s2', b1_some, s3', b1_some, e3, b1_some, s3, b1_some]
  refine congrArg (fun f => some ((), uSt t f)) (funext fun z => ?_)
  unfold puO
  simp only [uSt_1, va_app]
  by_cases c3 : z = 3
  · rw [if_pos c3, if_pos c3, if_neg (by omega), if_neg (by omega), if_neg (by omega), if_neg (by omega), h3, i64_s]
  · rw [if_neg c3, if_neg c3, i32_64 (by omega), i32_64 (by omega), i32_64 (by omega)]
def opO (N : iN) (t : twS) (p1 p2 p3 : Int32) (r : (Int32 ⊕ Int32) ⊕ (Nat × Nat)) (w : Int32 × twS) : Prop := match r with
  | .inl (.inl v) => w = (v, uSc t 2 0)
  | .inl (.inr ce) => ∃ i xx yy, i < N.2.1 ∧ xx < 30 ∧ yy < 30 ∧ p1 = Int32.ofNat i ∧ ce = Int32.ofNat (30 * yy + xx) ∧ N.2.2.1 < 16 ∧ w = (Int32.ofNat N.2.2.1, uSt (uSc t 2 0) (puO t.1 N.2.2.1 i xx yy))
  | .inr q => ∃ k, w.2 = uSc (uSc t 2 0) 2 k ∧ k = ec2 q.1 ∧ (q.1 = 20 ∨ q.1 = 21)
theorem o_open (h : Pr E N mo n s t g) (p1 p2 p3 : Int32) : Ww (c_open E N p1 p2 p3 s g) fun z => z.2.1 = s ∧ gx g z.2.2 300 3000 ∧ Ww (t_X6_openOutlet E p1 p2 p3 t) (opO N t p1 p2 p3 z.1) := by
  obtain ⟨hB, hI, hR, hJ, hE, hr, hS, hO, hS3, hS8, hnn, h200⟩ := h
  obtain ⟨h60, h8, h16, h4⟩ := hI.1
  have hE1 : 1000 ≤ E.1 := by omega
  have hN1 : N.2.1 < 1000 := by omega
  have hN2 : N.2.2.1 < 1000 := by omega
  have hN3 : N.2.1 < 2 ^ 31 := by omega
  have hN4 : N.2.2.2.1 < 2 ^ 31 := by omega
  have rB : ∀ k m, k ≤ 300 → m ≤ 3000 → rm g k m := fun k m a b => rm_le hr a b
  simp (maxDischargeDepth := 12) only [c_open, w_bnd2, w_bind, w_some, w_ite, el_l, el_r, b1_some, b2_some, bi_if, bi_30, bi_0, zgd_bi, zgd0, zgd1, Classical.not_not, x_nA1, x_nA2, x_nA4, x_sI10, x_sI20, x_sI21, x_sI40, x_sI41, x_sI42, x_sI43, gb1, gb2, gb4, x_isP, x_isAm, x_isAc, x_isOp, x_isOT, rm_gt, rm_ge, rB, Nat.reduceAdd, Nat.reduceLeDiff, Nat.reduceLT, not_true_eq_false, not_false_eq_true, forall_const, false_implies, true_implies, and_true, true_and, and_self, i10, n10, true_or, or_true, false_or, or_false, false_and, and_false, w_rI hE1, w_rA hE1, w_fr hE1 hN1, w_ou hE1 hN2, x_isFr hN3, x_isPl hN4]
  refine ⟨fun i e hi => ⟨fun ha => ?_, fun ha => ?_⟩, fun hn => ?_⟩
  · subst e
    obtain ⟨xx, yy, h1, h2, e1, e2⟩ := isP_nat ha
    subst e1 e2
    have hce : 30 * yy + xx < 900 := by omega
    have hcell : (30 : Int32) * Int32.ofNat yy + Int32.ofNat xx = Int32.ofNat (30 * yy + xx) := by
      show Int32.ofNat 30 * Int32.ofNat yy + Int32.ofNat xx = _
      rw [← Int32.ofNat_mul, ← Int32.ofNat_add]
    have c16 : Int32.ofNat N.2.2.1 = (16 : Int32) ↔ N.2.2.1 = 16 := i32_eq (b := 16) (by omega) (by decide)
    have d16 : Int64.ofNat N.2.2.1 = (16 : Int64) ↔ N.2.2.1 = 16 := i64_eq (b := 16) (by omega) (by decide)
    simp (maxDischargeDepth := 12) only [x_cell, x_HO hE1 h16, cdI_of hce (show 900 < 2 ^ 31 by decide), w_bnd2, w_bind, w_some, w_ite, el_l, el_r, b1_some, b2_some, bi_if, bi_30, bi_0, zgd_bi, zgd0, zgd1, Classical.not_not, x_nA1, x_nA2, x_nA4, x_sI10, x_sI20, x_sI21, x_sI40, x_sI41, x_sI42, x_sI43, gb1, gb2, gb4, x_isP, x_isAm, x_isAc, x_isOp, x_isOT, rm_gt, rm_ge, rB, Nat.reduceAdd, Nat.reduceLeDiff, Nat.reduceLT, not_true_eq_false, not_false_eq_true, forall_const, false_implies, true_implies, and_true, true_and, and_self, i10, n10, true_or, or_true, false_or, or_false, false_and, and_false, w_rI hE1, w_rA hE1, w_fr hE1 hN1, w_ou hE1 hN2, x_isFr hN3, x_isPl hN4, c16]
    refine ⟨fun c1 => ⟨(by first | exact gxw (gx_rfl _) (by decide) (by decide) | exact gxw (gx_ge1 (gx_rfl _)) (by decide) (by decide) | exact gxw (gx_gt1 (gx_rfl _)) (by decide) (by decide) | exact gxw (gx_ge1 (gx_gt1 (gx_rfl _))) (by decide) (by decide) | exact gxw (gx_gt1 (gx_gt1 (gx_rfl _))) (by decide) (by decide) | exact gxw (gx_ge1 (gx_gt1 (gx_gt1 (gx_rfl _)))) (by decide) (by decide) | exact gxw (gx_gt1 (gx_gt1 (gx_gt1 (gx_rfl _)))) (by decide) (by decide) | exact gxw (gx_ge1 (gx_gt1 (gx_gt1 (gx_gt1 (gx_rfl _))))) (by decide) (by decide) | exact gxw (gx_gt1 (gx_gt1 (gx_gt1 (gx_gt1 (gx_rfl _))))) (by decide) (by decide) | exact gxw (gx_ge1 (gx_gt1 (gx_gt1 (gx_gt1 (gx_gt1 (gx_rfl _)))))) (by decide) (by decide) | exact gxw (gx_gt1 (gx_gt1 (gx_gt1 (gx_gt1 (gx_gt1 (gx_rfl _)))))) (by decide) (by decide) | exact gxw (gx_ge1 (gx_gt1 (gx_gt1 (gx_gt1 (gx_gt1 (gx_gt1 (gx_rfl _))))))) (by decide) (by decide)), ?_⟩, fun c1 => ⟨fun c2 => ⟨fun c3 => ⟨fun c4 => ⟨(by first | exact gxw (gx_rfl _) (by decide) (by decide) | exact gxw (gx_ge1 (gx_rfl _)) (by decide) (by decide) | exact gxw (gx_gt1 (gx_rfl _)) (by decide) (by decide) | exact gxw (gx_ge1 (gx_gt1 (gx_rfl _))) (by decide) (by decide) | exact gxw (gx_gt1 (gx_gt1 (gx_rfl _))) (by decide) (by decide) | exact gxw (gx_ge1 (gx_gt1 (gx_gt1 (gx_rfl _)))) (by decide) (by decide) | exact gxw (gx_gt1 (gx_gt1 (gx_gt1 (gx_rfl _)))) (by decide) (by decide) | exact gxw (gx_ge1 (gx_gt1 (gx_gt1 (gx_gt1 (gx_rfl _))))) (by decide) (by decide) | exact gxw (gx_gt1 (gx_gt1 (gx_gt1 (gx_gt1 (gx_rfl _))))) (by decide) (by decide) | exact gxw (gx_ge1 (gx_gt1 (gx_gt1 (gx_gt1 (gx_gt1 (gx_rfl _)))))) (by decide) (by decide) | exact gxw (gx_gt1 (gx_gt1 (gx_gt1 (gx_gt1 (gx_gt1 (gx_rfl _)))))) (by decide) (by decide) | exact gxw (gx_ge1 (gx_gt1 (gx_gt1 (gx_gt1 (gx_gt1 (gx_gt1 (gx_rfl _))))))) (by decide) (by decide)), ?_⟩, fun c4 => ⟨(by first | exact gxw (gx_rfl _) (by decide) (by decide) | exact gxw (gx_ge1 (gx_rfl _)) (by decide) (by decide) | exact gxw (gx_gt1 (gx_rfl _)) (by decide) (by decide) | exact gxw (gx_ge1 (gx_gt1 (gx_rfl _))) (by decide) (by decide) | exact gxw (gx_gt1 (gx_gt1 (gx_rfl _))) (by decide) (by decide) | exact gxw (gx_ge1 (gx_gt1 (gx_gt1 (gx_rfl _)))) (by decide) (by decide) | exact gxw (gx_gt1 (gx_gt1 (gx_gt1 (gx_rfl _)))) (by decide) (by decide) | exact gxw (gx_ge1 (gx_gt1 (gx_gt1 (gx_gt1 (gx_rfl _))))) (by decide) (by decide) | exact gxw (gx_gt1 (gx_gt1 (gx_gt1 (gx_gt1 (gx_rfl _))))) (by decide) (by decide) | exact gxw (gx_ge1 (gx_gt1 (gx_gt1 (gx_gt1 (gx_gt1 (gx_rfl _)))))) (by decide) (by decide) | exact gxw (gx_gt1 (gx_gt1 (gx_gt1 (gx_gt1 (gx_gt1 (gx_rfl _)))))) (by decide) (by decide) | exact gxw (gx_ge1 (gx_gt1 (gx_gt1 (gx_gt1 (gx_gt1 (gx_gt1 (gx_rfl _))))))) (by decide) (by decide)), ?_⟩⟩, fun c3 => ⟨(by first | exact gxw (gx_rfl _) (by decide) (by decide) | exact gxw (gx_ge1 (gx_rfl _)) (by decide) (by decide) | exact gxw (gx_gt1 (gx_rfl _)) (by decide) (by decide) | exact gxw (gx_ge1 (gx_gt1 (gx_rfl _))) (by decide) (by decide) | exact gxw (gx_gt1 (gx_gt1 (gx_rfl _))) (by decide) (by decide) | exact gxw (gx_ge1 (gx_gt1 (gx_gt1 (gx_rfl _)))) (by decide) (by decide) | exact gxw (gx_gt1 (gx_gt1 (gx_gt1 (gx_rfl _)))) (by decide) (by decide) | exact gxw (gx_ge1 (gx_gt1 (gx_gt1 (gx_gt1 (gx_rfl _))))) (by decide) (by decide) | exact gxw (gx_gt1 (gx_gt1 (gx_gt1 (gx_gt1 (gx_rfl _))))) (by decide) (by decide) | exact gxw (gx_ge1 (gx_gt1 (gx_gt1 (gx_gt1 (gx_gt1 (gx_rfl _)))))) (by decide) (by decide) | exact gxw (gx_gt1 (gx_gt1 (gx_gt1 (gx_gt1 (gx_gt1 (gx_rfl _)))))) (by decide) (by decide) | exact gxw (gx_ge1 (gx_gt1 (gx_gt1 (gx_gt1 (gx_gt1 (gx_gt1 (gx_rfl _))))))) (by decide) (by decide)), ?_⟩⟩, fun c2 => ⟨(by first | exact gxw (gx_rfl _) (by decide) (by decide) | exact gxw (gx_ge1 (gx_rfl _)) (by decide) (by decide) | exact gxw (gx_gt1 (gx_rfl _)) (by decide) (by decide) | exact gxw (gx_ge1 (gx_gt1 (gx_rfl _))) (by decide) (by decide) | exact gxw (gx_gt1 (gx_gt1 (gx_rfl _))) (by decide) (by decide) | exact gxw (gx_ge1 (gx_gt1 (gx_gt1 (gx_rfl _)))) (by decide) (by decide) | exact gxw (gx_gt1 (gx_gt1 (gx_gt1 (gx_rfl _)))) (by decide) (by decide) | exact gxw (gx_ge1 (gx_gt1 (gx_gt1 (gx_gt1 (gx_rfl _))))) (by decide) (by decide) | exact gxw (gx_gt1 (gx_gt1 (gx_gt1 (gx_gt1 (gx_rfl _))))) (by decide) (by decide) | exact gxw (gx_ge1 (gx_gt1 (gx_gt1 (gx_gt1 (gx_gt1 (gx_rfl _)))))) (by decide) (by decide) | exact gxw (gx_gt1 (gx_gt1 (gx_gt1 (gx_gt1 (gx_gt1 (gx_rfl _)))))) (by decide) (by decide) | exact gxw (gx_ge1 (gx_gt1 (gx_gt1 (gx_gt1 (gx_gt1 (gx_gt1 (gx_rfl _))))))) (by decide) (by decide)), ?_⟩⟩⟩
    · simp (maxDischargeDepth := 12) only [t_X6_openOutlet_b47, t_X6_openOutlet_b80, t_X6_openOutlet_b40, t_X6_openOutlet_b19, t_X6_openOutlet_b0, t_X6_openOutlet, not_true_eq_false, not_false_eq_true, forall_const, false_implies, true_implies, and_true, true_and, and_self, i10, n10, true_or, or_true, false_or, or_false, false_and, and_false, w_bnd2, w_bind, w_some, w_ite, w_thr, w_thr0, w_thr1, y_thr0, y_thr1, b1_some, b2_some, bi_0, zgd_bi, zgd0, zgd1, Classical.not_not, uSc_1, uSt_1, uAm_1, uAr_1, tS_s, tS_st, y_isCell, y_inRange, bi_if, bi_30, y_isOver, y_isFr (t := uSc t 2 0) hB hN3, inF_n (show i < 2 ^ 31 by omega), hi, ha, y_isActive (show i < 8 by omega), r_stat hB hi, le_0, y_ownerOf h1 h2, r_cel hB hce, i32_64_32, hcell, y_HO (t := uSc t 2 0) hB hE1 h16, y_d3, r_no hB, c1]
      exact rfl
    · simp (maxDischargeDepth := 12) only [t_X6_openOutlet_b47, t_X6_openOutlet_b80, t_X6_openOutlet_b40, t_X6_openOutlet_b19, t_X6_openOutlet_b0, t_X6_openOutlet, not_true_eq_false, not_false_eq_true, forall_const, false_implies, true_implies, and_true, true_and, and_self, i10, n10, true_or, or_true, false_or, or_false, false_and, and_false, w_bnd2, w_bind, w_some, w_ite, w_thr, w_thr0, w_thr1, y_thr0, y_thr1, b1_some, b2_some, bi_0, zgd_bi, zgd0, zgd1, Classical.not_not, uSc_1, uSt_1, uAm_1, uAr_1, tS_s, tS_st, y_isCell, y_inRange, bi_if, bi_30, y_isOver, y_isFr (t := uSc t 2 0) hB hN3, inF_n (show i < 2 ^ 31 by omega), hi, ha, y_isActive (show i < 8 by omega), r_stat hB hi, le_0, y_ownerOf h1 h2, r_cel hB hce, i32_64_32, hcell, y_HO (t := uSc t 2 0) hB hE1 h16, y_d3, r_no hB, c1, c2, c3, d16.mpr c4]
      exact rfl
    · simp (maxDischargeDepth := 12) only [t_X6_openOutlet_b47, t_X6_openOutlet_b80, t_X6_openOutlet_b40, t_X6_openOutlet_b19, t_X6_openOutlet_b0, t_X6_openOutlet, not_true_eq_false, not_false_eq_true, forall_const, false_implies, true_implies, and_true, true_and, and_self, i10, n10, true_or, or_true, false_or, or_false, false_and, and_false, w_bnd2, w_bind, w_some, w_ite, w_thr, w_thr0, w_thr1, y_thr0, y_thr1, b1_some, b2_some, bi_0, zgd_bi, zgd0, zgd1, Classical.not_not, uSc_1, uSt_1, uAm_1, uAr_1, tS_s, tS_st, y_isCell, y_inRange, bi_if, bi_30, y_isOver, y_isFr (t := uSc t 2 0) hB hN3, inF_n (show i < 2 ^ 31 by omega), hi, ha, y_isActive (show i < 8 by omega), r_stat hB hi, le_0, y_ownerOf h1 h2, r_cel hB hce, i32_64_32, hcell, y_HO (t := uSc t 2 0) hB hE1 h16, y_d3, r_no hB, c1, c2, c3, d16, c4, y_put (E := E) (t := uSc t 2 0) (show N.2.2.1 < 16 by omega) (r_no hB) (show i < 8 by omega) h1 h2]
      refine ⟨i, xx, yy, hi, h1, h2, rfl, rfl, by omega, ?_⟩
      have e3 : puO t.1 N.2.2.1 i xx yy 3 = Int64.ofNat (N.2.2.1 + 1) := if_pos rfl
      rw [e3, i64_32, show (1 : Int32) = Int32.ofNat 1 from rfl, i32_sub (by omega) (by omega), show N.2.2.1 + 1 - 1 = N.2.2.1 by omega]
    · simp (maxDischargeDepth := 12) only [t_X6_openOutlet_b47, t_X6_openOutlet_b80, t_X6_openOutlet_b40, t_X6_openOutlet_b19, t_X6_openOutlet_b0, t_X6_openOutlet, not_true_eq_false, not_false_eq_true, forall_const, false_implies, true_implies, and_true, true_and, and_self, i10, n10, true_or, or_true, false_or, or_false, false_and, and_false, w_bnd2, w_bind, w_some, w_ite, w_thr, w_thr0, w_thr1, y_thr0, y_thr1, b1_some, b2_some, bi_0, zgd_bi, zgd0, zgd1, Classical.not_not, uSc_1, uSt_1, uAm_1, uAr_1, tS_s, tS_st, y_isCell, y_inRange, bi_if, bi_30, y_isOver, y_isFr (t := uSc t 2 0) hB hN3, inF_n (show i < 2 ^ 31 by omega), hi, ha, y_isActive (show i < 8 by omega), r_stat hB hi, le_0, y_ownerOf h1 h2, r_cel hB hce, i32_64_32, hcell, y_HO (t := uSc t 2 0) hB hE1 h16, y_d3, r_no hB, c1, c2, c3]
      exact rfl
    · simp (maxDischargeDepth := 12) only [t_X6_openOutlet_b47, t_X6_openOutlet_b80, t_X6_openOutlet_b40, t_X6_openOutlet_b19, t_X6_openOutlet_b0, t_X6_openOutlet, not_true_eq_false, not_false_eq_true, forall_const, false_implies, true_implies, and_true, true_and, and_self, i10, n10, true_or, or_true, false_or, or_false, false_and, and_false, w_bnd2, w_bind, w_some, w_ite, w_thr, w_thr0, w_thr1, y_thr0, y_thr1, b1_some, b2_some, bi_0, zgd_bi, zgd0, zgd1, Classical.not_not, uSc_1, uSt_1, uAm_1, uAr_1, tS_s, tS_st, y_isCell, y_inRange, bi_if, bi_30, y_isOver, y_isFr (t := uSc t 2 0) hB hN3, inF_n (show i < 2 ^ 31 by omega), hi, ha, y_isActive (show i < 8 by omega), r_stat hB hi, le_0, y_ownerOf h1 h2, r_cel hB hce, i32_64_32, hcell, y_HO (t := uSc t 2 0) hB hE1 h16, y_d3, r_no hB, c1, c2]
      exact rfl
  · subst e
    simp (maxDischargeDepth := 12) only [t_X6_openOutlet_b47, t_X6_openOutlet_b80, t_X6_openOutlet_b40, t_X6_openOutlet_b19, t_X6_openOutlet_b0, t_X6_openOutlet, not_true_eq_false, not_false_eq_true, forall_const, false_implies, true_implies, and_true, true_and, and_self, i10, n10, true_or, or_true, false_or, or_false, false_and, and_false, w_bnd2, w_bind, w_some, w_ite, w_thr, w_thr0, w_thr1, y_thr0, y_thr1, b1_some, b2_some, bi_0, zgd_bi, zgd0, zgd1, Classical.not_not, uSc_1, uSt_1, uAm_1, uAr_1, tS_s, tS_st, y_isCell, y_inRange, bi_if, bi_30, y_isOver, y_isFr (t := uSc t 2 0) hB hN3, inF_n (show i < 2 ^ 31 by omega), hi, ha]
    exact ⟨(by first | exact gxw (gx_rfl _) (by decide) (by decide) | exact gxw (gx_ge1 (gx_rfl _)) (by decide) (by decide) | exact gxw (gx_gt1 (gx_rfl _)) (by decide) (by decide) | exact gxw (gx_ge1 (gx_gt1 (gx_rfl _))) (by decide) (by decide) | exact gxw (gx_gt1 (gx_gt1 (gx_rfl _))) (by decide) (by decide) | exact gxw (gx_ge1 (gx_gt1 (gx_gt1 (gx_rfl _)))) (by decide) (by decide) | exact gxw (gx_gt1 (gx_gt1 (gx_gt1 (gx_rfl _)))) (by decide) (by decide) | exact gxw (gx_ge1 (gx_gt1 (gx_gt1 (gx_gt1 (gx_rfl _))))) (by decide) (by decide) | exact gxw (gx_gt1 (gx_gt1 (gx_gt1 (gx_gt1 (gx_rfl _))))) (by decide) (by decide) | exact gxw (gx_ge1 (gx_gt1 (gx_gt1 (gx_gt1 (gx_gt1 (gx_rfl _)))))) (by decide) (by decide) | exact gxw (gx_gt1 (gx_gt1 (gx_gt1 (gx_gt1 (gx_gt1 (gx_rfl _)))))) (by decide) (by decide) | exact gxw (gx_ge1 (gx_gt1 (gx_gt1 (gx_gt1 (gx_gt1 (gx_gt1 (gx_rfl _))))))) (by decide) (by decide)), 2, rfl, rfl, Or.inr rfl⟩
  · simp (maxDischargeDepth := 12) only [t_X6_openOutlet_b47, t_X6_openOutlet_b80, t_X6_openOutlet_b40, t_X6_openOutlet_b19, t_X6_openOutlet_b0, t_X6_openOutlet, not_true_eq_false, not_false_eq_true, forall_const, false_implies, true_implies, and_true, true_and, and_self, i10, n10, true_or, or_true, false_or, or_false, false_and, and_false, w_bnd2, w_bind, w_some, w_ite, w_thr, w_thr0, w_thr1, y_thr0, y_thr1, b1_some, b2_some, bi_0, zgd_bi, zgd0, zgd1, Classical.not_not, uSc_1, uSt_1, uAm_1, uAr_1, tS_s, tS_st, y_isCell, y_inRange, bi_if, bi_30, y_isOver, y_isFr (t := uSc t 2 0) hB hN3, hn]
    exact ⟨(by first | exact gxw (gx_rfl _) (by decide) (by decide) | exact gxw (gx_ge1 (gx_rfl _)) (by decide) (by decide) | exact gxw (gx_gt1 (gx_rfl _)) (by decide) (by decide) | exact gxw (gx_ge1 (gx_gt1 (gx_rfl _))) (by decide) (by decide) | exact gxw (gx_gt1 (gx_gt1 (gx_rfl _))) (by decide) (by decide) | exact gxw (gx_ge1 (gx_gt1 (gx_gt1 (gx_rfl _)))) (by decide) (by decide) | exact gxw (gx_gt1 (gx_gt1 (gx_gt1 (gx_rfl _)))) (by decide) (by decide) | exact gxw (gx_ge1 (gx_gt1 (gx_gt1 (gx_gt1 (gx_rfl _))))) (by decide) (by decide) | exact gxw (gx_gt1 (gx_gt1 (gx_gt1 (gx_gt1 (gx_rfl _))))) (by decide) (by decide) | exact gxw (gx_ge1 (gx_gt1 (gx_gt1 (gx_gt1 (gx_gt1 (gx_rfl _)))))) (by decide) (by decide) | exact gxw (gx_gt1 (gx_gt1 (gx_gt1 (gx_gt1 (gx_gt1 (gx_rfl _)))))) (by decide) (by decide) | exact gxw (gx_ge1 (gx_gt1 (gx_gt1 (gx_gt1 (gx_gt1 (gx_gt1 (gx_rfl _))))))) (by decide) (by decide)), 1, rfl, rfl, Or.inl rfl⟩
end OO
