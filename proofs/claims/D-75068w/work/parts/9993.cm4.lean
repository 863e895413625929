/-! closing a month: transfers, the end of the month *(the twin against the component's tables)* -/
set_option maxRecDepth 100000
section BP
/-- a transfer that is due: what it writes -/
def trD (s : cT) (o i : Nat) : cT := uL (uI (uI (uI (uI s (o + 140 + i) 0 4) (o + 130 + i) 4 (s.2.1 (o + 140 + i) 2)) (o + 130 + i) 6 (s.2.1 (o + 130 + i) 6 + 1)) (o + 130 + i) 7 0) (o + 130 + i) 8 (s.2.2.1 (o + 130 + i) 8 + s.2.2.1 2 6)
theorem trD_o (s : cT) {o i : Nat} (c k : Nat) (h : c ≠ o + 130 + i ∧ c ≠ o + 140 + i ∨ c = o + 130 + i ∧ k ≠ 4 ∧ k ≠ 6 ∧ k ≠ 7 ∧ k ≠ 8 ∨ c = o + 140 + i ∧ k ≠ 0) : (trD s o i).2.1 c k = s.2.1 c k ∧ (trD s o i).2.2.1 c k = s.2.2.1 c k := by
  unfold trD
  refine ⟨?_, ?_⟩
  · rw [uL_I, uI_ne _ _ (by omega), uI_ne _ _ (by omega), uI_ne _ _ (by omega), uI_ne _ _ (by omega)]
  · rw [uL_ne _ _ (by omega)]
    rfl
theorem trD_4 (s : cT) (o i : Nat) : (trD s o i).2.1 (o + 130 + i) 4 = s.2.1 (o + 140 + i) 2 := by
  unfold trD
  rw [uL_I, uI_ne _ _ (by omega), uI_ne _ _ (by omega), uI_s]
theorem trD_6 (s : cT) (o i : Nat) : (trD s o i).2.1 (o + 130 + i) 6 = s.2.1 (o + 130 + i) 6 + 1 := by
  unfold trD
  rw [uL_I, uI_ne _ _ (by omega), uI_s]
theorem trD_7 (s : cT) (o i : Nat) : (trD s o i).2.1 (o + 130 + i) 7 = 0 := by
  unfold trD
  rw [uL_I, uI_s]
theorem trD_8 (s : cT) (o i : Nat) : (trD s o i).2.2.1 (o + 130 + i) 8 = s.2.2.1 (o + 130 + i) 8 + s.2.2.1 2 6 := by
  unfold trD
  rw [uL_s]
theorem trD_0 (s : cT) (o i : Nat) : (trD s o i).2.1 (o + 140 + i) 0 = 4 := by
  unfold trD
  rw [uL_I, uI_ne _ _ (by omega), uI_ne _ _ (by omega), uI_ne _ _ (by omega), uI_s]
end BP
section TL
variable {E : zE} {N : iN} {sD : cT} {t : twS} {mo n g0 : Nat}
theorem y_doT {w : twS} {j : Nat} (hj : j < 8) : t_X6_doTransfer E (Int32.ofNat j) w = some ((), uSt w (va_up (va_up (va_up (va_up (va_up w.1 (58 + 16 * j + 9) 4) (58 + 16 * j + 2) (w.1 (58 + 16 * j + 10))) (58 + 16 * j + 5) (w.1 (58 + 16 * j + 5) + 1)) (58 + 16 * j + 6) 0) (58 + 16 * j + 4) (w.1 (58 + 16 * j + 4) + w.1 8))) := by
  unfold t_X6_doTransfer t_X6_doTransfer_b0
  rw [y_set9 hj, b2_some, y_of10 hj, b2_some, y_set2 hj, b2_some, y_add5 hj, b2_some, y_set6 hj, b2_some, y_d8, b1_some, y_add4 hj, b2_some]
  simp only [uSt_1]
  rw [cu_ne w.1 _ (show 58 + 16 * j + 10 ≠ 58 + 16 * j + 9 by omega), cu_ne (j := 58 + 16 * j + 5) (k := 58 + 16 * j + 2) _ _ (by omega), cu_ne (j := 58 + 16 * j + 5) (k := 58 + 16 * j + 9) _ _ (by omega), cu_ne (j := 58 + 16 * j + 4) (k := 58 + 16 * j + 6) _ _ (by omega), cu_ne (j := 58 + 16 * j + 4) (k := 58 + 16 * j + 5) _ _ (by omega), cu_ne (j := 58 + 16 * j + 4) (k := 58 + 16 * j + 2) _ _ (by omega), cu_ne (j := 58 + 16 * j + 4) (k := 58 + 16 * j + 9) _ _ (by omega), cu_ne (j := 8) (k := 58 + 16 * j + 6) _ _ (by omega), cu_ne (j := 8) (k := 58 + 16 * j + 5) _ _ (by omega), cu_ne (j := 8) (k := 58 + 16 * j + 2) _ _ (by omega), cu_ne (j := 8) (k := 58 + 16 * j + 9) _ _ (by omega)]
  rfl
/-- behind j turns of the twin's second loop -/
def bk2 (t τ : Nat → Int64) (N : iN) (mo n j : Nat) : Prop := (∀ y, y < 58 ∨ 58 + 16 * N.2.1 ≤ y → y < 1694 + 56 * mo ∨ 1750 + 56 * mo ≤ y → τ y = t y) ∧ (∀ i, i < N.2.1 → τ (58 + 16 * i + 0) = t (58 + 16 * i + 0)) ∧ (∀ i, j ≤ i → i < N.2.1 → ∀ x, x < 16 → τ (58 + 16 * i + x) = t (58 + 16 * i + x)) ∧ (∀ i, i < N.2.1 → ∀ q, q < 7 → btw (τ (1694 + 7 * (8 * mo + i) + q)) (-9000000000000000000) 9000000000000000000) ∧ ∀ i, i < j → frI τ (58 + 16 * i) N.2.2.2.1 (mo + 1) n
/-- a franchisee ahead of its transfer -/
def frJ (t : Nat → Int64) (b np mo n : Nat) : Prop := frI t b np (mo + 1) n ∧ btw (t (b + 4)) (- (mo * 20000000000000000 + n * 2000000000 + 19000000000000000)) (mo * 20000000000000000 + n * 2000000000 + 19000000000000000) ∧ btw (t (b + 5)) 0 mo ∧ btw (t (b + 12)) 0 60
theorem y_l228 (h8 : N.2.1 ≤ 8) (h16 : N.2.2.1 ≤ 16) (h4 : N.2.2.2.1 ≤ 4) (hE : 1000 ≤ E.1) (hm : mo < 60) (hn : n ≤ 100000) (hX : N.1 + 200 ≤ XT) (h2 : 200 ≤ N.1) (hS : ∀ i, i < N.2.1 → sD.1 (N.1 + 130 + i) = (1, 10) ∧ sD.1 (N.1 + 140 + i) = (1, 11)) (hOld : ∀ f m e, f < N.2.1 → m < mo → sD.2.2.2 (N.1 + 150 + f) m = some e → ∀ j, j < N.2.1 → e ≠ XT + (g0 + j)) (hB : RB sD N.1 N.2.1 N.2.2.1 mo t.1) (hW : ∀ i, i < N.2.1 → ∀ q, q < 7 → t.1 (1694 + 7 * (8 * mo + i) + q) = sD.2.2.1 (XT + (g0 + i)) q) (hG : ∀ i, i < N.2.1 → frJ t.1 (58 + 16 * i) N.2.2.2.1 mo n) (hRb : ∀ i, i < N.2.1 → ∀ q, q < 7 → btw (t.1 (1694 + 7 * (8 * mo + i) + q)) (-9000000000000000000) 9000000000000000000) (hR : RR sD N.2.2.2.1 N.2.2.2.2 t.1) (hJ : IR t.1 N.2.2.2.1) {Q : Int32 × twS → Prop} (hQ : ∀ w : twS, w.2.2 = t.2.2 → RB (CC sD N.1 g0 N.2.1) N.1 N.2.1 N.2.2.1 mo w.1 → (∀ i, i < N.2.1 → ∀ q, q < 7 → w.1 (1694 + 7 * (8 * mo + i) + q) = (CC sD N.1 g0 N.2.1).2.2.1 (XT + (g0 + i)) q) → bk2 t.1 w.1 N mo n N.2.1 → Ww (t_X6_closeMonth_l302 E E.1 (0 : Int32) w) Q) : Ww (t_X6_closeMonth_l228 E E.1 (Int32.ofNat mo) (0 : Int32) t) Q := by
  refine w_lp (σ := twS) (L := fun m k a => t_X6_closeMonth_l228 E m (Int32.ofNat mo) k a) (n := N.2.1) (by omega) (Inv := fun j a => a.2.2 = t.2.2 ∧ RB (CC sD N.1 g0 j) N.1 N.2.1 N.2.2.1 mo a.1 ∧ (∀ i, i < N.2.1 → ∀ q, q < 7 → a.1 (1694 + 7 * (8 * mo + i) + q) = (CC sD N.1 g0 j).2.2.1 (XT + (g0 + i)) q) ∧ bk2 t.1 a.1 N mo n j) (fun m j w hj ha k => ?_) (fun m w ha => ?_) N.2.1 0 E.1 t (by omega) (by omega) ⟨rfl, hB, hW, fun _ _ _ => rfl, fun _ _ => rfl, fun _ _ _ _ _ => rfl, hRb, fun i hi => by omega⟩
  · show Ww (t_X6_closeMonth_l228 E (m + 1) (Int32.ofNat mo) (Int32.ofNat j) w) _
    obtain ⟨b2, b3, bw, c0, c1, c2, c3, c4⟩ := ha
    have hj8 : j < 8 := by omega
    have off : ∀ c, (∀ i, i < j → c ≠ N.1 + 130 + i ∧ c ≠ N.1 + 140 + i) → c < XT → (CC sD N.1 g0 j).2.1 c = sD.2.1 c ∧ (CC sD N.1 g0 j).2.2.1 c = sD.2.2.1 c := fun c hc hx => CC_o j (fun i hi => ⟨(hc i hi).1, (hc i hi).2, by omega⟩)
    have hC : ∀ c, c < 200 → (CC sD N.1 g0 j).2.1 c = sD.2.1 c ∧ (CC sD N.1 g0 j).2.2.1 c = sD.2.2.1 c := fun c hc => off c (fun i hi => by omega) (by omega)
    have fr : ∀ y, y < 58 → w.1 y = t.1 y := fun y hy => c0 y (by omega) (by omega)
    have hR1 : RR (CC sD N.1 g0 j) N.2.2.2.1 N.2.2.2.2 w.1 := RR_cg hR h4 (fun c hc _ => hC c hc) (fun y hy => fr y (by omega))
    have hJ1 : IR w.1 N.2.2.2.1 := IR_cg hJ h4 (fun y hy => fr y (by omega))
    have fj := hG j hj
    have same : ∀ x, x < 16 → w.1 (58 + 16 * j + x) = t.1 (58 + 16 * j + x) := fun x hx => c2 j (Nat.le_refl _) hj x hx
    have e6 : ∀ (u : twS) (v : Int64), tsL u 1 (Int32.ofNat (1694 + 7 * (8 * mo + j)) + (6 : Int32)) v = some (uSt u (va_up u.1 (1694 + 7 * (8 * mo + j) + 6) v)) := fun u v => y_rws (q := 6) hm hj8 (by decide) v
    have fin : ∀ φ : Nat → Int64, (∀ y, y < 58 + 16 * j ∨ 74 + 16 * j ≤ y → φ y = w.1 y) → φ (58 + 16 * j + 0) = w.1 (58 + 16 * j + 0) → RB (trS (CC sD N.1 g0 j) N.1 j) N.1 N.2.1 N.2.2.1 mo φ → frI φ (58 + 16 * j) N.2.2.2.1 (mo + 1) n → Ww (t_X6_closeMonth_b271 E (t_X6_closeMonth_l228 E m) (Int32.ofNat mo) (Int32.ofNat j) (uSt w φ)) Q := fun φ φo φ0 φB φI => by
      unfold t_X6_closeMonth_b271
      rw [y_ivr, b2_some, y_of4 hj8, b2_some, e6, b1_some, i32_s]
      show Ww (t_X6_closeMonth_l228 E m (Int32.ofNat mo) (Int32.ofNat (j + 1)) (uSt w (va_up φ (1694 + 7 * (8 * mo + j) + 6) (φ (58 + 16 * j + 4))))) Q
      have v4 := r_bal φB hj
      have vo : ∀ y, y ≠ 1694 + 7 * (8 * mo + j) + 6 → va_up φ (1694 + 7 * (8 * mo + j) + 6) (φ (58 + 16 * j + 4)) y = φ y := fun y hy => cu_ne _ _ hy
      have vs : va_up φ (1694 + 7 * (8 * mo + j) + 6) (φ (58 + 16 * j + 4)) (1694 + 7 * (8 * mo + j) + 6) = (trS (CC sD N.1 g0 j) N.1 j).2.2.1 (N.1 + 130 + j) 8 := (cu_same _ _ _).trans v4
      refine k _ ⟨b2, ?_, fun i hi q hq => ?_, fun y y1 y2 => ?_, fun i hi => ?_, fun i hi1 hi x hx => ?_, fun i hi q hq => ?_, fun i hi => ?_⟩
      · refine RB_cg2 (RB_mo φB ⟨h8, h16⟩ hm (fun y y1 y2 => vo y (by omega))) ⟨h8, h16⟩ (fun c hc => ⟨rfl, uL_row _ (by omega) _ _⟩) (fun _ _ _ _ => rfl) (fun f mm e hf hmm he hs => ⟨hs, uL_row _ ?_ _ _⟩)
        rw [trS_R, CC_R] at he
        exact hOld f mm e hf hmm he j hj
      · show va_up φ (1694 + 7 * (8 * mo + j) + 6) (φ (58 + 16 * j + 4)) (1694 + 7 * (8 * mo + i) + q) = (uL (trS (CC sD N.1 g0 j) N.1 j) (XT + (g0 + j)) 6 ((trS (CC sD N.1 g0 j) N.1 j).2.2.1 (N.1 + 130 + j) 8)).2.2.1 (XT + (g0 + i)) q
        by_cases e : i = j ∧ q = 6
        · rw [e.1, e.2, vs, uL_s]
        · rw [vo _ (by omega), φo _ (by omega), bw i hi q hq, uL_ne _ _ (by omega), (trS_o _ (by omega) (by omega)).2]
      · exact (vo y (by omega)).trans ((φo y (by omega)).trans (c0 y y1 y2))
      · refine (vo _ (by omega)).trans ?_
        by_cases e : i = j
        · rw [e, φ0, ← e]; exact c1 i hi
        · exact (φo _ (by omega)).trans (c1 i hi)
      · exact (vo _ (by omega)).trans ((φo _ (by omega)).trans (c2 i (by omega) hi x hx))
      · show btw (va_up φ (1694 + 7 * (8 * mo + j) + 6) (φ (58 + 16 * j + 4)) (1694 + 7 * (8 * mo + i) + q)) _ _
        by_cases e : i = j ∧ q = 6
        · rw [e.1, e.2, vs, ← v4]
          exact btw_w φI.2.2.1 (by omega) (by omega)
        · rw [vo _ (by omega), φo _ (by omega)]
          exact c3 i hi q hq
      · refine frI_cg (t := φ) ?_ (fun x hx => vo _ (by omega))
        by_cases e : i = j
        · rw [e]; exact φI
        · exact frI_cg (c4 i (by omega)) (fun x hx => φo _ (by omega))
    have keep : (trS (CC sD N.1 g0 j) N.1 j = CC sD N.1 g0 j) → Ww (t_X6_closeMonth_b271 E (t_X6_closeMonth_l228 E m) (Int32.ofNat mo) (Int32.ofNat j) w) Q := fun he => fin w.1 (fun _ _ => rfl) rfl (by rw [he]; exact b3) (frI_cg fj.1 same)
    have x9 := r_tst b3 hj
    unfold t_X6_closeMonth_l228
    rw [y_d2, b1_some, r_nf b3, if_neg (i64_nle (by omega) hj), y_of9 hj8, b2_some, x9]
    by_cases d1 : (CC sD N.1 g0 j).2.1 (N.1 + 140 + j) 0 = 2
    · rw [if_pos (le_2.mpr d1), y_isDly hj8, b2_some]
      have hx := fj.2.2.2
      have hy := hJ1.2.2.2.2.2.1
      rw [← same 12 (by decide), r_tmo b3 hj] at hx
      rw [r_dly hR1] at hy
      rw [r_mo b3, r_tmo b3 hj, r_dly hR1]
      have hd := dly_iff (show mo ≤ 60 by omega) hx hy
      rw [← r_moc b3] at hd
      by_cases d2 : (CC sD N.1 g0 j).2.1 2 7 ≤ (CC sD N.1 g0 j).2.1 (N.1 + 10) 5 - (CC sD N.1 g0 j).2.1 (N.1 + 140 + j) 1
      · rw [bi_t (hd.mp d2), if_neg (by decide), y_doT hj8, b2_some]
        have et : trS (CC sD N.1 g0 j) N.1 j = trD (CC sD N.1 g0 j) N.1 j := by
          unfold trS
          rw [if_pos d1, if_pos d2]
          rfl
        generalize hφ : va_up (va_up (va_up (va_up (va_up w.1 (58 + 16 * j + 9) 4) (58 + 16 * j + 2) (w.1 (58 + 16 * j + 10))) (58 + 16 * j + 5) (w.1 (58 + 16 * j + 5) + 1)) (58 + 16 * j + 6) 0) (58 + 16 * j + 4) (w.1 (58 + 16 * j + 4) + w.1 8) = φ
        have φn : ∀ y, y ≠ 58 + 16 * j + 9 → y ≠ 58 + 16 * j + 2 → y ≠ 58 + 16 * j + 5 → y ≠ 58 + 16 * j + 6 → y ≠ 58 + 16 * j + 4 → φ y = w.1 y := fun y y1 y2 y3 y4 y5 => by
          rw [← hφ, cu_ne _ _ y5, cu_ne _ _ y4, cu_ne _ _ y3, cu_ne _ _ y2, cu_ne _ _ y1]
        have φ4 : φ (58 + 16 * j + 4) = w.1 (58 + 16 * j + 4) + w.1 8 := by rw [← hφ, cu_same]
        have φ6 : φ (58 + 16 * j + 6) = 0 := by rw [← hφ, cu_ne _ _ (by omega), cu_same]
        have φ5 : φ (58 + 16 * j + 5) = w.1 (58 + 16 * j + 5) + 1 := by rw [← hφ, cu_ne _ _ (by omega), cu_ne _ _ (by omega), cu_same]
        have φ2 : φ (58 + 16 * j + 2) = w.1 (58 + 16 * j + 10) := by rw [← hφ, cu_ne _ _ (by omega), cu_ne _ _ (by omega), cu_ne _ _ (by omega), cu_same]
        have φ9 : φ (58 + 16 * j + 9) = 4 := by rw [← hφ, cu_ne _ _ (by omega), cu_ne _ _ (by omega), cu_ne _ _ (by omega), cu_ne _ _ (by omega), cu_same]
        have tr1 : ∀ c k, c ≠ N.1 + 130 + j ∧ c ≠ N.1 + 140 + j ∨ c = N.1 + 130 + j ∧ k ≠ 4 ∧ k ≠ 6 ∧ k ≠ 7 ∧ k ≠ 8 ∨ c = N.1 + 140 + j ∧ k ≠ 0 → (trD (CC sD N.1 g0 j) N.1 j).2.1 c k = (CC sD N.1 g0 j).2.1 c k ∧ (trD (CC sD N.1 g0 j) N.1 j).2.2.1 c k = (CC sD N.1 g0 j).2.2.1 c k := fun c k h => trD_o _ c k h
        have g5 := fj.2.2.1
        rw [← same 5 (by decide), r_gen b3 hj] at g5
        have inc := inc64m (btw_w g5 (Int.le_refl _) (by omega))
        have fee := hJ1.2.2.2.2.1
        have b4 := fj.2.1
        rw [← same 4 (by decide)] at b4
        refine fin φ (fun y hy => φn y (by omega) (by omega) (by omega) (by omega) (by omega)) (φn _ (by omega) (by omega) (by omega) (by omega) (by omega)) ?_ ?_
        · rw [et]
          refine RB_fr b3 ⟨h8, h16⟩ hj ?_ (fun y hy => φn y (by omega) (by omega) (by omega) (by omega) (by omega)) rfl rfl (fun c q1 q2 => ⟨funext fun k => (tr1 c k (Or.inl ⟨q1, q2⟩)).1, funext fun k => (tr1 c k (Or.inl ⟨q1, q2⟩)).2⟩) ⟨((φn _ (by omega) (by omega) (by omega) (by omega) (by omega)).trans (r_plan b3 hj)).trans (congrArg Int32.toInt64 (tr1 (N.1 + 130 + j) 3 (by omega)).1.symm), ?_, ((φn _ (by omega) (by omega) (by omega) (by omega) (by omega)).trans (r_stat b3 hj)).trans (congrArg Int32.toInt64 (tr1 (N.1 + 130 + j) 5 (by omega)).1.symm), ?_, ?_, ?_, ((φn _ (by omega) (by omega) (by omega) (by omega) (by omega)).trans (r_con b3 hj)).trans ((tr1 (N.1 + 130 + j) 9 (by omega)).2.symm), ((φn _ (by omega) (by omega) (by omega) (by omega) (by omega)).trans (r_gra b3 hj)).trans ((tr1 (N.1 + 130 + j) 10 (by omega)).2.symm), ?_, ((φn _ (by omega) (by omega) (by omega) (by omega) (by omega)).trans (r_two b3 hj)).trans (congrArg Int32.toInt64 (tr1 (N.1 + 140 + j) 2 (by omega)).1.symm), ((φn _ (by omega) (by omega) (by omega) (by omega) (by omega)).trans (r_tpr b3 hj)).trans ((tr1 (N.1 + 140 + j) 6 (by omega)).2.symm), ((φn _ (by omega) (by omega) (by omega) (by omega) (by omega)).trans (r_tmo b3 hj)).trans (congrArg Int32.toInt64 (tr1 (N.1 + 140 + j) 1 (by omega)).1.symm), ((φn _ (by omega) (by omega) (by omega) (by omega) (by omega)).trans (r_tvo b3 hj)).trans (congrArg Int32.toInt64 (tr1 (N.1 + 140 + j) 5 (by omega)).1.symm), ((φn _ (by omega) (by omega) (by omega) (by omega) (by omega)).trans (r_tye b3 hj)).trans (congrArg Int32.toInt64 (tr1 (N.1 + 140 + j) 3 (by omega)).1.symm), ((φn _ (by omega) (by omega) (by omega) (by omega) (by omega)).trans (r_tno b3 hj)).trans (congrArg Int32.toInt64 (tr1 (N.1 + 140 + j) 4 (by omega)).1.symm)⟩
          · rw [CC_S]; exact hS j hj
          · rw [φ2, r_two b3 hj, trD_4]
          · rw [φ4, r_bal b3 hj, r_fee hR1, trD_8]
          · rw [φ5, r_gen b3 hj, trD_6]; exact inc.1
          · rw [φ6, trD_7]; decide
          · rw [φ9, trD_0]; decide
        · obtain ⟨f1, f3, f4, f5, f6, f7, f9, f11, f12, f13, f14, f15, f16⟩ := frI_cg (t1 := w.1) fj.1 same
          refine ⟨?_, ?_, ?_, ?_, ?_, ?_, ?_, ?_, ?_, ?_, ?_, ?_, fun q => ?_⟩
          · rw [φn _ (by omega) (by omega) (by omega) (by omega) (by omega)]; exact f1
          · rw [φn _ (by omega) (by omega) (by omega) (by omega) (by omega)]; exact f3
          · rw [φ4]; exact btw_w (btw_add b4 fee (by omega) (by omega)) (by omega) (by omega)
          · rw [φ5, r_gen b3 hj]
            exact btw_w (btw_add g5 (show btw (1 : Int64) 1 1 from ⟨by decide, by decide⟩) (by omega) (by omega)) (by omega) (by omega)
          · rw [φ6]; exact ⟨by decide, by show (0 : Int) ≤ _; omega⟩
          · rw [φn _ (by omega) (by omega) (by omega) (by omega) (by omega)]; exact f7
          · rw [φ9]; exact ⟨by decide, by decide⟩
          · rw [φn _ (by omega) (by omega) (by omega) (by omega) (by omega)]; exact f11
          · rw [φn _ (by omega) (by omega) (by omega) (by omega) (by omega)]; exact f12
          · rw [φn _ (by omega) (by omega) (by omega) (by omega) (by omega)]; exact f13
          · rw [φn _ (by omega) (by omega) (by omega) (by omega) (by omega)]; exact f14
          · rw [φn _ (by omega) (by omega) (by omega) (by omega) (by omega)]; exact f15
          · rw [φ9] at q; exact absurd q (by decide)
      · rw [bi_f (fun q => d2 (hd.mpr q)), if_pos rfl]
        exact keep (by unfold trS; rw [if_pos d1, if_neg d2])
    · rw [if_neg (fun q => d1 (le_2.mp q))]
      exact keep (by unfold trS; rw [if_neg d1])
  · show Ww (t_X6_closeMonth_l228 E (m + 1) (Int32.ofNat mo) (Int32.ofNat N.2.1) w) _
    obtain ⟨b2, b3, bw, hbk⟩ := ha
    unfold t_X6_closeMonth_l228
    rw [y_d2, b1_some, r_nf b3, if_pos (i64_nre (by omega))]
    exact hQ w b2 b3 bw hbk
theorem y_l302 (hE : 2000 ≤ E.1) {no : Nat} (h16 : no ≤ 16) (h3 : t.1 3 = Int64.ofNat no) (h0 : t.1 0 = Int64.ofNat mo) {Q : Int32 × twS → Prop} (hQ : ∀ w : twS, w.2 = t.2 → (∀ y, w.1 y = if y = 0 then Int64.ofNat (mo + 1) else if 1150 ≤ y ∧ y < 1214 then 0 else if 186 ≤ y ∧ y < 186 + 4 * no ∧ (y - 186) % 4 = 3 then 0 else t.1 y) → Q (Int32.ofNat (mo + 1), w)) : Ww (t_X6_closeMonth_l302 E E.1 (0 : Int32) t) Q := by
  refine w_lp (σ := twS) (L := fun m k a => t_X6_closeMonth_l302 E m k a) (n := no) (by omega) (Inv := fun j a => a.2 = t.2 ∧ ∀ y, a.1 y = if 186 ≤ y ∧ y < 186 + 4 * j ∧ (y - 186) % 4 = 3 then 0 else t.1 y) (fun m j w hj ha k => ?_) (fun m w ha => ?_) no 0 E.1 t (by omega) (by omega) ⟨rfl, fun y => (if_neg (by omega)).symm⟩
  · show Ww (t_X6_closeMonth_l302 E (m + 1) (Int32.ofNat j) w) _
    have e3 : w.1 3 = Int64.ofNat no := by rw [ha.2, if_neg (by omega), h3]
    unfold t_X6_closeMonth_l302
    rw [y_d3, b1_some, e3, if_neg (i64_nle (by omega) hj), y_oo3s (by omega), b1_some, i32_s]
    refine k _ ⟨ha.1, fun y => ?_⟩
    show va_up w.1 (186 + 4 * j + 3) 0 y = _
    by_cases e : y = 186 + 4 * j + 3
    · rw [e, cu_same, if_pos (by omega)]
    · rw [cu_ne _ _ e, ha.2]
      by_cases c : 186 ≤ y ∧ y < 186 + 4 * j ∧ (y - 186) % 4 = 3
      · rw [if_pos c, if_pos (by omega)]
      · rw [if_neg c, if_neg (by omega)]
  · show Ww (t_X6_closeMonth_l302 E (m + 1) (Int32.ofNat no) w) _
    have e3 : w.1 3 = Int64.ofNat no := by rw [ha.2, if_neg (by omega), h3]
    have e0 : w.1 0 = Int64.ofNat mo := by rw [ha.2, if_neg (by omega), h0]
    unfold t_X6_closeMonth_l302
    rw [y_d3, b1_some, e3, if_pos (i64_nre (by omega))]
    refine w_lp (σ := twS) (L := fun m k a => t_X6_closeMonth_l342 E m k a) (n := 1214) (by decide) (Inv := fun j a => a.2 = t.2 ∧ 1150 ≤ j ∧ ∀ y, a.1 y = if 1150 ≤ y ∧ y < j then 0 else w.1 y) (fun m j a hj hb k => ?_) (fun m a hb => ?_) 64 1150 E.1 w (by omega) (by omega) ⟨ha.1, Nat.le_refl _, fun y => (if_neg (by omega)).symm⟩
    · show Ww (t_X6_closeMonth_l342 E (m + 1) (Int32.ofNat j) a) _
      unfold t_X6_closeMonth_l342
      rw [if_neg (show ¬ (1214 : Int32) ≤ Int32.ofNat j from le_ofn (n := 1214) (by decide) hj), y_s (by omega), b1_some, i32_s]
      refine k _ ⟨hb.1, by have := hb.2.1; omega, fun y => ?_⟩
      show va_up a.1 j 0 y = _
      have hj0 := hb.2.1
      by_cases e : y = j
      · rw [e, cu_same, if_pos (by omega)]
      · rw [cu_ne _ _ e, hb.2.2]
        by_cases c : 1150 ≤ y ∧ y < j
        · rw [if_pos c, if_pos (by omega)]
        · rw [if_neg c, if_neg (by omega)]
    · show Ww (t_X6_closeMonth_l342 E (m + 1) (Int32.ofNat 1214) a) _
      have y0 : ∀ (u : twS) (v : Int64), tsL u 1 (0 : Int32) v = some (uSt u (va_up u.1 0 v)) := fun u v => y_s (k := 0) (by decide)
      unfold t_X6_closeMonth_l342
      rw [if_pos (show (1214 : Int32) ≤ Int32.ofNat 1214 from Int32.le_refl _), y_d0, b1_some, y0, b1_some, y_d0, b1_some, w_some, uSt_1, cu_same, hb.2.2, if_neg (by omega), e0, i64_s, i64_32]
      refine hQ _ hb.1 (fun y => ?_)
      show va_up a.1 0 (Int64.ofNat (mo + 1)) y = _
      by_cases e : y = 0
      · rw [if_pos e, e, cu_same]
      · rw [if_neg e, cu_ne _ _ e, hb.2.2, ha.2]
end TL
