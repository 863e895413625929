/-! closing a month: both sides together -/
set_option maxRecDepth 100000
/-- what closing a month keeps -/
def okM (N : iN) (mo g0 : Nat) (s s1 : cT) : Prop := (∀ c, c < XT + g0 → s1.1 c = s.1 c) ∧ (∀ c, XT + g0 ≤ c → s1.1 c = s.1 c ∨ s1.1 c = (3, 7)) ∧ (∀ c k, ¬ (N.1 + 150 ≤ c ∧ c < N.1 + 150 + N.2.1 ∧ k = mo) → s1.2.2.2 c k = s.2.2.2 c k) ∧ (∀ i, i < N.2.1 → ∃ e, s1.2.2.2 (N.1 + 150 + i) mo = some e ∧ XT ≤ e) ∧ ∀ c, c < N.1 + 10 ∨ N.1 + 200 ≤ c ∧ c < XT + g0 → s1.2.1 c = s.2.1 c ∧ s1.2.2.1 c = s.2.2.1 c
def PoC (N : iN) (mo n : Nat) (s : cT) (t : twS) (g : zH) (s1 : cT) (t1 : twS) (g1 : zH) : Prop := RB s1 N.1 N.2.1 N.2.2.1 (mo + 1) t1.1 ∧ IV t1.1 N.2.1 N.2.2.1 N.2.2.2.1 (mo + 1) (n + 1) ∧ okM N mo g.2.1 s s1 ∧ okT t t1 ∧ gx g g1 300 3000
section PO
variable {E : zE} {N : iN} {mo n : Nat} {s : cT} {t : twS} {g : zH}
theorem o_closeMonth (h : Pr E N mo n s t g) (hX : N.1 + 200 ≤ XT) (hfr : ∀ a, g.2.1 ≤ a → (s.1 (XT + a)).1 = 0) : Ww (c_X1_closeMonth E N s g) fun z => Ww (t_X6_closeMonth E t) fun w => Rs ecS z.1 w.1 (tSc w.2 2) ∧ (Po N mo n s t g z.2.1 w.2 z.2.2 ∨ PoC N mo n s t g z.2.1 w.2 z.2.2) := by
  have hP := h
  obtain ⟨hB, hI, hR, hJ, hE, hr, hS, hO, hS3, hS8, hnn, h200⟩ := h
  obtain ⟨h60, h8, h16, h4⟩ := hI.1
  have hE1 : 1000 ≤ E.1 := by omega
  have hN1 : N.2.1 < 1000 := by omega
  have hN2 : N.2.2.1 < 1000 := by omega
  have hN3 : N.2.1 < 2 ^ 31 := by omega
  have hN4 : N.2.2.2.1 < 2 ^ 31 := by omega
  have rB : ∀ k m, k ≤ 300 → m ≤ 3000 → rm g k m := fun k m a b => rm_le hr a b
  unfold c_X1_closeMonth
  rw [w_bnd2, w_rMo1 (r_moc hB) (by omega) (rB 1 6 (by decide) (by decide))]
  refine ⟨fun hm => ?_, fun hm => ?_⟩
  · have hm2 : mo < 60 := by omega
    have hp : ∀ i, i < N.2.1 → plo s N.1 i < N.2.2.2.1 ∧ s.2.1 (N.1 + 130 + i) 3 = Int32.ofNat (plo s N.1 i) := fun i hi => by
      have f := (hI.2.1 i hi).1
      rw [r_plan hB hi] at f
      unfold btw at f
      rw [Int32.toInt_toInt64] at f
      have q := inF_nat (f := s.2.1 (N.1 + 130 + i) 3) (n := N.2.2.2.1) ⟨f.1, by have := f.2; omega⟩
      exact ⟨q.2, q.1⟩
    have hcp : btw (s.2.2.1 2 5) 0 999900 := by
      have := hJ.2.1
      rw [r_cap hR] at this
      exact this
    show Ww (bnd2 (c_close_l4 E N E.1 (0 : Int64) (0 : Int32) s g) fun _ z2 => some ((Sum.inl (z2.1.2.1 (N.1 + 10) 5) : Int32 ⊕ (Nat × Nat)), (z2.1, z2.2))) _
    rw [w_bnd2]
    refine x_l4 hE1 h8 h16 h4 hX h200 hm2 (r_moc hB) hp (fun i hi => r_nt5 hR hi) (rB 10 100 (by decide) (by decide)) (fun a g1 hA hg1 hx => ?_)
    have hA2 := hA
    obtain ⟨a1, a2, a3, a4⟩ := hA2
    have low : ∀ c, c < XT → a.1 c = s.1 c ∧ a.2.2.1 c = s.2.2.1 c := fun c hc => a2 c (fun i hi => by omega)
    have old : ∀ f m e, f < N.2.1 → m < mo → s.2.2.2 (N.1 + 150 + f) m = some e → ∀ j, e ≠ XT + (g.2.1 + j) := fun f m e hf hmm he j q => by
      obtain ⟨e1, h1, h2, h3⟩ := r_inv hB hf hmm
      rw [he] at h1
      cases h1
      have := hfr (g.2.1 + j) (by omega)
      rw [← q, h2] at this
      cases this
    have hmoa : a.2.1 (N.1 + 10) 5 = Int32.ofNat mo := by rw [a1]; exact r_moc hB
    refine x_l53 h8 hE1 hm2 hX h200 hmoa (fun i hi => ⟨(a4 i hi).1, (a4 i hi).2.1⟩) ?_
    have aD : ∀ c, (∀ i, i < N.2.1 → c ≠ N.1 + 130 + i) → c ≠ N.1 + 20 → (adS a N.1 N.2.1 g.2.1).2.1 c = a.2.1 c ∧ (adS a N.1 N.2.1 g.2.1).2.2.1 c = a.2.2.1 c := fun c hc h20 => ⟨(BK_o _ hc).1, (uL_row _ h20 _ _).trans (BK_o _ hc).2⟩
    have aS : (adS a N.1 N.2.1 g.2.1).1 = a.1 := BK_S _
    have aR : (adS a N.1 N.2.1 g.2.1).2.2.2 = a.2.2.2 := BK_R _
    generalize hC : CC (adS a N.1 N.2.1 g.2.1) N.1 g.2.1 N.2.1 = C
    have cS : C.1 = a.1 := by rw [← hC, CC_S, aS]
    have cR : C.2.2.2 = a.2.2.2 := by rw [← hC, CC_R, aR]
    have cO : ∀ c, (∀ i, i < N.2.1 → c ≠ N.1 + 130 + i ∧ c ≠ N.1 + 140 + i) → c < XT → c ≠ N.1 + 20 → C.2.1 c = s.2.1 c ∧ C.2.2.1 c = s.2.2.1 c := fun c hc hx h20 => by
      have k1 := CC_o (s := adS a N.1 N.2.1 g.2.1) (o := N.1) (g0 := g.2.1) (c := c) N.2.1 (fun i hi => ⟨(hc i hi).1, (hc i hi).2, by omega⟩)
      have k2 := aD c (fun i hi => (hc i hi).1) h20
      rw [← hC, k1.1, k1.2, k2.1, k2.2, a1, (low c hx).2]
      exact ⟨rfl, rfl⟩
    have cmo : C.2.1 (N.1 + 10) 5 = Int32.ofNat mo := by
      rw [(cO _ (fun i hi => by omega) (by omega) (by omega)).1]; exact r_moc hB
    refine w_mono (x_EM hE1 h8 h16 hm2 cmo) fun z hz => ?_
    obtain ⟨zg, zS, zR, zI, zL⟩ := hz
    rw [w_some]
    have hBa : RB a N.1 N.2.1 N.2.2.1 mo t.1 := RB_cg2 hB ⟨h8, h16⟩ (fun c hc => ⟨by rw [a1], (low c (by omega)).2⟩) (fun f m hf hmm => a3 _ _ (fun i hi q => by omega)) (fun f m e hf hmm he hs => by
      have k := a2 e (fun i hi => old f m e hf hmm he i)
      exact ⟨k.1.trans hs, k.2⟩)
    have hRa : RR a N.2.2.2.1 N.2.2.2.2 t.1 := RR_cg hR h4 (fun c hc _ => ⟨by rw [a1], (low c (by omega)).2⟩) (fun _ _ => rfl)
    have hSa : ∀ i, i < N.2.1 → a.1 (N.1 + 130 + i) = (1, 10) ∧ a.1 (N.1 + 140 + i) = (1, 11) := fun i hi => ⟨(low _ (by omega)).1.trans (hS i hi).1, (low _ (by omega)).1.trans (hS i hi).2.1⟩
    unfold t_X6_closeMonth t_X6_closeMonth_b0
    rw [y_isOver, b2_some, w_bnd2, w_thr]
    refine ⟨fun q => absurd ((mo60 h60).mp (by rw [← r_mo hB]; exact q)) hm, fun _ => ?_⟩
    show Ww ((tdL (uSc t 2 (0 : Int32)) 1 (0 : Int32)).bind fun x14 => t_X6_closeMonth_l32 E E.1 (x14.toInt32) (0 : Int64) (0 : Int32) (uSc t 2 (0 : Int32))) _
    rw [y_d0, b1_some, uSc_1, r_mo hB, i64_32]
    refine y_l32 (t := uSc t 2 (0 : Int32)) (s := s) (sA := a) (g0 := g.2.1) (n := n) h8 h16 h4 hE1 hm2 hnn hX h200 hA (fun i hi => ⟨(hS i hi).1, (hS i hi).2.1⟩) hBa hI hRa hJ hp hcp (fun w w2 wB wk => ?_)
    obtain ⟨k0, k1, k2, k3, k4⟩ := wk
    have k0 : ∀ y, y < 58 ∨ 58 + 16 * N.2.1 ≤ y → y < 1214 + 8 * mo ∨ 1222 + 8 * mo ≤ y → y < 1694 + 56 * mo ∨ 1750 + 56 * mo ≤ y → w.1 y = t.1 y := k0
    have k1 : ∀ i, i < N.2.1 → ∀ x, x < 16 → x ≠ 4 → x ≠ 6 → x ≠ 7 → w.1 (58 + 16 * i + x) = t.1 (58 + 16 * i + x) := k1
    generalize hV : w.1 11 + (sml (fun i => STm s N i 1) N.2.1 * w.1 7 + 5000) / 10000 = V
    have vo : ∀ y, y ≠ 11 → va_up w.1 11 V y = w.1 y := fun y hy => cu_ne _ _ hy
    have hD : RB (adS a N.1 N.2.1 g.2.1) N.1 N.2.1 N.2.2.1 mo (va_up w.1 11 V) := by
      refine RB_sp wB ⟨h8, h16⟩ (by rw [BK_S, (low _ (by omega)).1]; exact hS3) (fun y hy => vo y (by omega)) rfl rfl rfl (fun c hc => uL_row _ hc _ _) (fun k hk => ?_)
      by_cases e : k = 0
      · subst e
        show va_up w.1 11 V 11 = (uL (BK a N.1 g.2.1 N.2.1) (N.1 + 20) 0 _).2.2.1 (N.1 + 20) 0
        rw [cu_same, uL_s, ← hV, r_sp0 wB, (BK_o _ (fun i hi => by omega)).2, k0 7 (by omega) (by omega) (by omega), r_adm hRa, sml_cg fun i hi => ((a4 i hi).2.2 1 (by decide)).symm]
      · rw [vo _ (by omega)]
        show _ = (uL (BK a N.1 g.2.1 N.2.1) (N.1 + 20) 0 _).2.2.1 (N.1 + 20) k
        rw [uL_ne _ _ (Or.inr e)]
        exact r_spe wB hk
    have hfJ : ∀ i, i < N.2.1 → frJ (va_up w.1 11 V) (58 + 16 * i) N.2.2.2.1 mo n := fun i hi => by
      obtain ⟨f1, f3, f4, f5, f6, f7, f9, f11, f12, f13, f14, f15, f16⟩ := hI.2.1 i hi
      have g3 := k4 i hi
      have e : ∀ x, x < 16 → x ≠ 4 → x ≠ 6 → x ≠ 7 → va_up w.1 11 V (58 + 16 * i + x) = t.1 (58 + 16 * i + x) := fun x hx x4 x6 x7 => (vo _ (by omega)).trans (k1 i hi x hx x4 x6 x7)
      unfold frJ frI
      rw [vo (58 + 16 * i + 4) (by omega), vo (58 + 16 * i + 6) (by omega), vo (58 + 16 * i + 7) (by omega), e 1 (by decide) (by decide) (by decide) (by decide), e 3 (by decide) (by decide) (by decide) (by decide), e 5 (by decide) (by decide) (by decide) (by decide), e 9 (by decide) (by decide) (by decide) (by decide), e 11 (by decide) (by decide) (by decide) (by decide), e 12 (by decide) (by decide) (by decide) (by decide), e 13 (by decide) (by decide) (by decide) (by decide), e 14 (by decide) (by decide) (by decide) (by decide), e 15 (by decide) (by decide) (by decide) (by decide)]
      exact ⟨⟨f1, f3, btw_w g3.1 (by omega) (by omega), btw_w f5 (by omega) (by omega), btw_w g3.2.1 (by omega) (by omega), btw_w g3.2.2 (by omega) (by omega), f9, f11, f12, f13, f14, f15, f16⟩, g3.1, f5, f12⟩
    have bR : ∀ i, i < N.2.1 → ∀ q, btw (STm s N i q) (-9000000000000000000) 9000000000000000000 := fun i hi q => btw_w (btw_ST hcp h8 _ q).1 (by decide) (by decide)
    refine y_l228 (t := uSt w (va_up w.1 11 V)) (sD := adS a N.1 N.2.1 g.2.1) (g0 := g.2.1) (n := n) h8 h16 h4 hE1 hm2 hnn hX h200 (fun i hi => by rw [aS]; exact hSa i hi) (fun f m e hf hmm he j hj => ?_) hD (fun i hi q hq => ?_) hfJ (fun i hi q hq => ?_) (RR_cg hRa h4 (fun c hc _ => aD c (fun i hi => by omega) (by omega)) (fun y hy => (vo y (by omega)).trans (k0 y (by omega) (by omega) (by omega)))) (IR_cg hJ h4 (fun y hy => (vo y (by omega)).trans (k0 y (by omega) (by omega) (by omega)))) (fun w' v2 vB vW vk => ?_)
    · rw [aR, a3 _ _ (fun i hi q => by omega)] at he
      exact old f m e hf hmm he j
    · show va_up w.1 11 V _ = _
      rw [vo _ (by omega), (k3 i hi).2 q hq, (aD _ (fun j hj => by omega) (by omega)).2, (a4 i hi).2.2 q hq]
    · show btw (va_up w.1 11 V _) _ _
      rw [vo _ (by omega), (k3 i hi).2 q hq]
      exact bR i hi q
    · obtain ⟨l0, l1, l2, l3, l4⟩ := vk
      rw [hC] at vB vW
      have l0 : ∀ y, y < 58 ∨ 58 + 16 * N.2.1 ≤ y → y < 1694 + 56 * mo ∨ 1750 + 56 * mo ≤ y → y ≠ 11 → w'.1 y = w.1 y := fun y y1 y2 y3 => (l0 y y1 y2).trans (vo y y3)
      refine y_l302 (t := w') (mo := mo) (no := N.2.2.1) (by omega) h16 (r_no vB) (r_mo vB) (fun u e2 hy => ?_)
      have u2 : u.2.2 = (uSc t 2 (0 : Int32)).2.2 := by rw [e2, v2]; exact w2
      have ud : ∀ y, y ≠ 0 → y < 1150 ∨ 1214 ≤ y → y < 186 ∨ 186 + 4 * N.2.2.1 ≤ y ∨ (y - 186) % 4 ≠ 3 → u.1 y = w'.1 y := fun y y1 y2 y3 => by
        rw [hy, if_neg y1, if_neg (by omega), if_neg (by omega)]
      have eI : ∀ c, c ≠ N.1 + 10 → z.2.1.2.1 c = C.2.1 c := fun c hc => funext fun k => by rw [zI, if_neg (by omega)]
      have eL : ∀ c, c < N.1 + 160 ∨ N.1 + 160 + N.2.1 ≤ c → c < N.1 + 190 ∨ N.1 + 190 + N.2.1 ≤ c → c < N.1 + 170 ∨ N.1 + 170 + N.2.2.1 ≤ c → z.2.1.2.2.1 c = C.2.2.1 c := fun c h1 h2 h3 => funext fun k => by
        rw [zL]
        unfold EML
        rw [if_neg (by omega), if_neg (by omega), if_neg (by omega)]
      have shp : ∀ e, C.1 e = (3, 7) → z.2.1.2.2.1 e = C.2.2.1 e := fun e he => by
        rw [cS] at he
        refine eL e ?_ ?_ ?_
        · by_cases q : N.1 + 160 ≤ e ∧ e < N.1 + 160 + N.2.1
          · have k := (hS (e - (N.1 + 160)) (by omega)).2.2
            rw [show N.1 + 160 + (e - (N.1 + 160)) = e by omega, ← (low e (by omega)).1, he] at k
            cases k
          · omega
        · by_cases q : N.1 + 190 ≤ e ∧ e < N.1 + 190 + N.2.1
          · have k := hS8 (e - (N.1 + 190)) (by omega)
            rw [show N.1 + 190 + (e - (N.1 + 190)) = e by omega, ← (low e (by omega)).1, he] at k
            cases k
          · omega
        · by_cases q : N.1 + 170 ≤ e ∧ e < N.1 + 170 + N.2.2.1
          · have k := hO (e - (N.1 + 170)) (by omega)
            rw [show N.1 + 170 + (e - (N.1 + 170)) = e by omega, ← (low e (by omega)).1, he] at k
            cases k
          · omega
      have zSA : ∀ f, SA C N.1 N.2.2.1 f 100 = SA s N.1 N.2.2.1 f 100 := fun f => SA_cg fun q hq => ⟨by rw [(cO _ (fun i hi => by omega) (by omega) (by omega)).1], by rw [(cO _ (fun i hi => by omega) (by omega) (by omega)).2]⟩
      have hrc : ∀ f, f < N.2.1 → u.1 (1214 + 8 * mo + f) = SA s N.1 N.2.2.1 (Int32.ofNat f) 100 := fun f hf => by
        rw [ud _ (by omega) (by omega) (by omega), l0 _ (by omega) (by omega) (by omega)]
        exact (k3 f hf).1
      have hdz : ∀ f k, f < 8 → k < 8 → u.1 (1150 + 8 * f + k) = 0 := fun f k hf hk => by
        rw [hy, if_neg (by omega), if_pos (by omega)]
      have kt : ∀ y, y ≠ 0 → y ≠ 11 → y < 58 ∨ 58 + 16 * N.2.1 ≤ y → y < 1150 ∨ 1214 ≤ y → y < 186 ∨ 186 + 4 * N.2.2.1 ≤ y ∨ (y - 186) % 4 ≠ 3 → y < 1214 + 8 * mo ∨ 1222 + 8 * mo ≤ y → y < 1694 + 56 * mo ∨ 1750 + 56 * mo ≤ y → u.1 y = t.1 y := fun y y0 y1 y2 y3 y4 y5 y6 => (ud y y0 y3 y4).trans ((l0 y y2 y6 y1).trans (k0 y y2 y5 y6))
      refine ⟨⟨?_, ?_⟩, Or.inr ⟨⟨⟨?_, ?_, ?_, ?_⟩, fun j hj => ?_, fun k hk => ?_, fun c hc => ?_, fun k hk => ?_, fun f hf q hq => ?_, fun f hf m hmm => ?_, fun f hf m hmm => ?_⟩, ⟨⟨by omega, h8, h16, h4⟩, fun i hi => ?_, fun k hk => ⟨?_, ?_⟩, fun c hc => ?_, fun f hf m hmm => ⟨?_, fun q hq => ?_⟩, fun f hf q hq hz => hdz f q hf hq⟩, ⟨fun c hc => ?_, fun c hc => ?_, fun c k hc => ?_, fun i hi => ?_, fun c hc => ?_⟩, ⟨fun y hcy => ?_, fun k hk => ?_, fun i hi => ?_, ?_⟩, ?_⟩⟩
      · show tSc u 2 = 0
        unfold tSc
        rw [u2]
        rfl
      · show z.2.1.2.1 (N.1 + 10) 5 = Int32.ofNat (mo + 1)
        rw [zI, if_pos ⟨rfl, rfl⟩]
      · rw [hy, if_pos rfl]
      · rw [zI, if_pos ⟨rfl, rfl⟩]
      · rw [ud _ (by omega) (by omega) (by omega)]; exact r_nf vB
      · rw [ud _ (by omega) (by omega) (by omega)]; exact r_no vB
      · exact frR_cg (vB.2.1 j hj) ⟨eI _ (by omega), eL _ (by omega) (by omega) (by omega)⟩ ⟨eI _ (by omega), eL _ (by omega) (by omega) (by omega)⟩ (fun x hx => ud _ (by omega) (by omega) (by omega))
      · obtain ⟨o1, ⟨e, he, o2, o3, o4⟩, o5⟩ := vB.2.2.1 k hk
        refine ⟨?_, ⟨e, he, ?_, ?_, ?_⟩, ?_⟩
        · rw [ud _ (by omega) (by omega) (by omega), eI _ (by omega)]; exact o1
        · rw [eI _ (by omega)]; exact o2
        · rw [ud _ (by omega) (by omega) (by omega)]; exact o3
        · rw [ud _ (by omega) (by omega) (by omega)]; exact o4
        · rw [hy, if_neg (by omega), if_neg (by omega), if_pos (by omega), zL]
          unfold EML
          rw [if_neg (by omega), if_neg (by omega), if_pos (by omega)]
      · rw [ud _ (by omega) (by omega) (by omega), eI _ (by omega)]; exact r_cel vB hc
      · rw [ud _ (by omega) (by omega) (by omega), eL _ (by omega) (by omega) (by omega)]; exact r_spe vB hk
      · rw [hdz f q hf hq, zL]
        unfold EML
        rw [if_neg (by omega)]
        by_cases e : f < N.2.1
        · rw [if_pos (by omega)]
        · rw [if_neg (by omega), if_neg (by omega), ← r_del vB hf hq, l0 _ (by omega) (by omega) (by omega), k0 _ (by omega) (by omega) (by omega)]
          exact (hI.2.2.2.2.2 f hf q hq (Or.inl (by omega))).symm
      · by_cases e : m = mo
        · rw [e, hrc f hf, zL]
          unfold EML
          rw [if_pos ⟨by omega, by omega, rfl⟩, show N.1 + 160 + f - (N.1 + 160) = f by omega, zSA]
        · rw [ud _ (by omega) (by omega) (by omega), r_rec vB hf (show m < mo by omega), zL]
          unfold EML
          rw [if_neg (by omega), if_neg (by omega), if_neg (by omega)]
      · by_cases e : m = mo
        · refine ⟨XT + (g.2.1 + f), ?_, ?_, fun q hq => ?_⟩
          · rw [e, zR, cR]; exact (a4 f hf).1
          · rw [zS, cS]; exact (a4 f hf).2.1
          · rw [e, ud _ (by omega) (by omega) (by omega), vW f hf q hq, eL _ (by omega) (by omega) (by omega)]
        · obtain ⟨e1, h1, h2, h3⟩ := r_inv vB hf (show m < mo by omega)
          refine ⟨e1, by rw [zR]; exact h1, by rw [zS]; exact h2, fun q hq => ?_⟩
          rw [ud _ (by omega) (by omega) (by omega), h3 q hq, shp e1 h2]
      · exact frI_n (frI_cg (l4 i hi) (fun x hx => ud _ (by omega) (by omega) (by omega))) (Nat.le_succ n)
      · rw [kt _ (by omega) (by omega) (by omega) (by omega) (by omega) (by omega) (by omega)]; exact (hI.2.2.1 k hk).1
      · rw [hy, if_neg (by omega), if_neg (by omega), if_pos (by omega)]
        exact ⟨by decide, by decide⟩
      · rw [kt _ (by omega) (by omega) (by omega) (by omega) (by omega) (by omega) (by omega)]; exact hI.2.2.2.1 c hc
      · by_cases e : m = mo
        · rw [e, hrc f hf]
          have h0 := btw_SA1 hB hI (Int32.ofNat f) N.2.2.1 (Nat.le_refl _)
          exact btw_w h0 (by omega) (by omega)
        · rw [kt _ (by omega) (by omega) (by omega) (by omega) (by omega) (by omega) (by omega)]; exact (hI.2.2.2.2.1 f hf m (by omega)).1
      · by_cases e : m = mo
        · rw [e, ud _ (by omega) (by omega) (by omega)]; exact l3 f hf q hq
        · rw [kt _ (by omega) (by omega) (by omega) (by omega) (by omega) (by omega) (by omega)]; exact (hI.2.2.2.2.1 f hf m (by omega)).2 q hq
      · rw [zS, cS, (a2 c (fun i hi => by omega)).1]
      · rw [zS, cS]
        by_cases q : ∃ i, i < N.2.1 ∧ c = XT + (g.2.1 + i)
        · obtain ⟨i, hi, e⟩ := q
          exact Or.inr (by rw [e]; exact (a4 i hi).2.1)
        · exact Or.inl (a2 c (fun i hi e => q ⟨i, hi, e⟩)).1
      · rw [zR, cR]
        exact a3 c k (fun i hi q => hc ⟨by omega, by omega, q.2⟩)
      · exact ⟨XT + (g.2.1 + i), by rw [zR, cR]; exact (a4 i hi).1, by omega⟩
      · have q1 := CC_o (s := adS a N.1 N.2.1 g.2.1) (o := N.1) (g0 := g.2.1) (c := c) N.2.1 (fun i hi => ⟨by omega, by omega, by omega⟩)
        have q2 := aD c (fun i hi => by omega) (by omega)
        rw [hC] at q1
        rw [eI _ (by omega), eL _ (by omega) (by omega) (by omega), q1.1, q1.2, q2.1, q2.2, a1, (a2 c (fun i hi => by omega)).2]
        exact ⟨rfl, rfl⟩
      · rcases hcy with q | q | q | ⟨i, hi, q⟩
        · exact kt y (by omega) (by omega) (by omega) (by omega) (by omega) (by omega) (by omega)
        · exact kt y (by omega) (by omega) (by omega) (by omega) (by omega) (by omega) (by omega)
        · exact kt y (by omega) (by omega) (by omega) (by omega) (by omega) (by omega) (by omega)
        · subst q
          by_cases e : i < N.2.1
          · rw [ud _ (by omega) (by omega) (by omega)]
            exact (l1 i e).trans ((vo _ (by omega)).trans (k1 i e 0 (by decide) (by decide) (by decide) (by decide)))
          · exact kt _ (by omega) (by omega) (by omega) (by omega) (by omega) (by omega) (by omega)
      · show tSc u k = tSc t k
        unfold tSc
        rw [u2]
        exact cu_ne _ _ hk
      · rw [u2]; rfl
      · rw [u2]; rfl
      · rw [zg]
        exact gx_widen hx (by decide) (by decide)
  · subst hm
    show Ww (some ((Sum.inr (22, g.2.1) : Int32 ⊕ (Nat × Nat)), (s, ge g 22))) _
    rw [w_some]
    unfold t_X6_closeMonth t_X6_closeMonth_b0
    rw [y_isOver, b2_some, w_bnd2, w_thr]
    refine ⟨fun _ => ?_, fun q => absurd (by rw [uSc_1, r_mo hB]; rfl) q⟩
    show Ww (some ((0 : Int32), uSc (uSc t 2 (0 : Int32)) 2 (1 : Int32))) _
    rw [w_some]
    exact ⟨RsS, Or.inl (Po_ro hB hI rfl (okT_thr (okT_thr (okT_rfl t) _) _) (by first | exact gxw (gx_rfl _) (by decide) (by decide) | exact gxw (gx_ge1 (gx_rfl _)) (by decide) (by decide) | exact gxw (gx_gt1 (gx_rfl _)) (by decide) (by decide) | exact gxw (gx_ge1 (gx_gt1 (gx_rfl _))) (by decide) (by decide) | exact gxw (gx_gt1 (gx_gt1 (gx_rfl _))) (by decide) (by decide) | exact gxw (gx_ge1 (gx_gt1 (gx_gt1 (gx_rfl _)))) (by decide) (by decide) | exact gxw (gx_gt1 (gx_gt1 (gx_gt1 (gx_rfl _)))) (by decide) (by decide) | exact gxw (gx_ge1 (gx_gt1 (gx_gt1 (gx_gt1 (gx_rfl _))))) (by decide) (by decide) | exact gxw (gx_gt1 (gx_gt1 (gx_gt1 (gx_gt1 (gx_rfl _))))) (by decide) (by decide) | exact gxw (gx_ge1 (gx_gt1 (gx_gt1 (gx_gt1 (gx_gt1 (gx_rfl _)))))) (by decide) (by decide) | exact gxw (gx_gt1 (gx_gt1 (gx_gt1 (gx_gt1 (gx_gt1 (gx_rfl _)))))) (by decide) (by decide) | exact gxw (gx_ge1 (gx_gt1 (gx_gt1 (gx_gt1 (gx_gt1 (gx_gt1 (gx_rfl _))))))) (by decide) (by decide)))⟩
end PO
