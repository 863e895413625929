/-! the world behind openOutlet -/
set_option maxRecDepth 100000
section WO
variable {X : cT → (Nat → Option zC) → twS → Prop} {E : zE} {q x a c n : Nat} {H : zH} {t : twS} {p : cP} {s : cT} {N : iN} {mo nb : Nat}
/-- the new outlet, in the world *(g9: raw heap behind the questions)* -/
theorem Wo_out (hX : stb X) (hE : 20000 ≤ E.1) (h : Wo X q x a (c + 1) n H t p s N mo nb) {g9 : zH} (hg : gx H g9 300 3000) {i xx yy : Nat} (hi : i < N.2.1) (hx : xx < 30) (hy : yy < 30) (hno : N.2.2.1 < 16) : ∃ H1 H2, opT E x (Int32.ofNat i) (Int32.ofNat (30 * yy + xx)) (cH p s g9) = some (.inl (Int32.ofNat N.2.2.1), H1) ∧ sL H1 a (0 : Int32) (Int32.ofNat N.2.2.1).toInt64 = some H2 ∧ dL H2 a 0 = some (Int32.ofNat N.2.2.1).toInt64 ∧ ∃ p1 s1 N1 mo1 nb1, Wo X q x a c (n + 1) H2 (uSt (uSc t 2 0) (puO t.1 N.2.2.1 i xx yy)) p1 s1 N1 mo1 nb1 := by
  obtain ⟨⟨w1, w2, w3, w4⟩, ⟨w5, w6, w7, w8, w9⟩, ⟨w10, w11, w12, w13, w14⟩, ⟨w15, w16, w17, w18, w19⟩, ⟨w20, w21⟩, w22, w23⟩ := h
  have iX := w3.2.2.1
  have iB := w3.2.2.2.1
  have h2 := w3.2.2.2.2.2
  have h8 := w6.1.2.1
  have XTv : XT = 1000000 := rfl
  have K9 : Kp p s g9 := Kp_g w1 hg.1
  have r9 : rm g9 10 500 := ⟨by have := w14.1; have := hg.2.2.1; omega, by have := w14.2; have := hg.2.2.2; omega⟩
  generalize hnoo : N.2.2.1 = no at *
  obtain ⟨e1, T1⟩ := Tr_new (fs := [.int 0, .int 0, .long 0]) (Tr_0 K9) r9 (N.1 + 170 + no) 13 3 (by decide) (by decide) (w20 no (Nat.le_refl _) hno) (by omega) rfl
  generalize hp2 : pA p (N.1 + 170 + no) g9.2.1 = p2 at e1 T1
  generalize hs2 : sNw s (N.1 + 170 + no) (1, 13) = s2 at e1 T1
  generalize hg2 : zadd g9 (true, .inr (13, [.int 0, .int 0, .long 0])) 3 = g2 at e1 T1
  have f2 : ∀ d, d ≠ N.1 + 170 + no → p2.1 d = p.1 d ∧ s2.1 d = s.1 d ∧ s2.2.1 d = s.2.1 d ∧ s2.2.2.1 d = s.2.2.1 d ∧ s2.2.2.2 d = s.2.2.2 d := fun d hd => by
    rw [← hp2, ← hs2]
    exact ⟨cu_ne p.1 _ hd, sNw_o s hd _⟩
  have q2 : p2.1 (N.1 + 170 + no) = g9.2.1 := by rw [← hp2]; exact cu_same _ _ _
  have c2 : s2.1 (N.1 + 170 + no) = (1, 13) := by rw [← hs2]; exact cu_same _ _ _
  obtain ⟨e3, T3⟩ := Tr_I T1 (N.1 + 170 + no) 13 0 (v := Int32.ofNat (30 * yy + xx)) c2 rfl q2
  obtain ⟨e4, T4⟩ := Tr_I T3 (N.1 + 170 + no) 13 1 (v := Int32.ofNat i) c2 rfl q2
  obtain ⟨e5, T5⟩ := Tr_L T4 (N.1 + 170 + no) 13 2 (v := 0) c2 rfl q2
  generalize hs5 : uL (uI (uI s2 (N.1 + 170 + no) 0 (Int32.ofNat (30 * yy + xx))) (N.1 + 170 + no) 1 (Int32.ofNat i)) (N.1 + 170 + no) 2 0 = s5 at e5 T5
  have f5 : ∀ d, d ≠ N.1 + 170 + no → p2.1 d = p.1 d ∧ s5.1 d = s.1 d ∧ s5.2.1 d = s.2.1 d ∧ s5.2.2.1 d = s.2.2.1 d ∧ s5.2.2.2 d = s.2.2.2 d := fun d hd => by
    have x := f2 d hd
    rw [← hs5]
    exact ⟨x.1, x.2.1, (show (uI (uI s2 (N.1 + 170 + no) 0 (Int32.ofNat (30 * yy + xx))) (N.1 + 170 + no) 1 (Int32.ofNat i)).2.1 d = _ from (uI_row _ hd _ _).trans ((uI_row _ hd _ _).trans x.2.2.1)), (uL_row _ hd _ _).trans x.2.2.2.1, x.2.2.2.2⟩
  have o5 : s5.2.1 (N.1 + 170 + no) 0 = Int32.ofNat (30 * yy + xx) ∧ s5.2.1 (N.1 + 170 + no) 1 = Int32.ofNat i ∧ s5.2.2.1 (N.1 + 170 + no) 2 = 0 := by
    rw [← hs5]
    exact ⟨by rw [uL_I, uI_ne _ _ (Or.inr (by decide)), uI_s], by rw [uL_I, uI_s], by rw [uL_s]⟩
  have c5 : s5.1 (N.1 + 170 + no) = (1, 13) := by rw [← hs5]; exact c2
  have y13 := f5 (N.1 + 13) (by omega)
  have y14 := f5 (N.1 + 14) (by omega)
  have l0 : lsc s (N.1 + 13) (N.1 + 14) no (fun k => N.1 + 170 + k) := ⟨iB.2.2.2.2.2.2.2.2.2.2.1, w21⟩
  have lc : lsc s5 (N.1 + 13) (N.1 + 14) no (fun k => N.1 + 170 + k) := lsc_cg l0 ⟨y13.2.1, y13.2.2.1, y13.2.2.2.2⟩ ⟨y14.2.1, y14.2.2.2.2⟩
  have sho : ∀ k, k < no → s.1 (N.1 + 170 + k) = (1, 13) := fun k hk => iB.2.2.2.2.2.2.2.2.2.2.2.2.2.1 k hk
  have sh : ∀ k, k < no → s5.1 (N.1 + 170 + k) = (1, 13) := fun k hk => by
    rw [(f5 _ (by omega)).2.1]; exact sho k hk
  obtain ⟨pd, sd, gd, e6, A⟩ := J_add E T5.1 (c := N.1 + 13) (r := N.1 + 14) (n := no) (e := N.1 + 170 + no) lc (by omega) (by omega) (by omega) (ob_sh T5.1 c5) (Or.inl (by rw [c5]; exact Nat.succ_ne_zero _)) (fun k hk => ob_sh T5.1 (sh k hk)) (Tr_rm T5 r9 (by decide) (by decide))
  have T6 := Tr_ad T5 A
  obtain ⟨A1, A2, A3, A4, A5, A6⟩ := A
  have A2 : lsc sd (N.1 + 13) (N.1 + 14) (no + 1) (fun k => N.1 + 170 + k) := lsc_el A2 (fun k hk => by
    by_cases w : k = no
    · rw [if_pos w, w]
    · rw [if_neg w])
  have fd : ∀ d, d ≠ N.1 + 170 + no → d ≠ N.1 + 13 → d ≠ N.1 + 14 → pd.1 d = p.1 d ∧ sd.1 d = s.1 d ∧ sd.2.1 d = s.2.1 d ∧ sd.2.2.1 d = s.2.2.1 d ∧ sd.2.2.2 d = s.2.2.2 d := fun d d1 d2 d3 => by
    have x := f5 d d1
    have y := A3 d d3
    exact ⟨y.1.trans x.1, y.2.1.trans x.2.1, (A4 d d2).trans x.2.2.1, (congrFun A5 d).trans x.2.2.2.1, y.2.2.trans x.2.2.2.2⟩
  have sS : ∀ d, d ≠ N.1 + 170 + no → d ≠ N.1 + 14 → sd.1 d = s.1 d := fun d d1 d2 => ((A3 d d2).2.1).trans (f5 d d1).2.1
  have od : sd.1 (N.1 + 170 + no) = (1, 13) ∧ sd.2.1 (N.1 + 170 + no) 0 = Int32.ofNat (30 * yy + xx) ∧ sd.2.1 (N.1 + 170 + no) 1 = Int32.ofNat i ∧ sd.2.2.1 (N.1 + 170 + no) 2 = 0 := ⟨((A3 _ (by omega)).2.1).trans c5, (congrFun (A4 _ (by omega)) 0).trans o5.1, (congrFun (A4 _ (by omega)) 1).trans o5.2.1, (congrFun (congrFun A5 _) 2).trans o5.2.2⟩
  have rawd : ∀ b, b < H.2.1 → p.2 b = none → b ≠ a → pd.2 b = none ∧ gd.1 b = H.1 b := fun b hb hn _ => by
    have k := T6.2.1 b (by have := hg.1; omega) hn
    exact ⟨k.1, k.2.trans (hg.2.1 b hb)⟩
  have ka := T6.2.1 a (by have := hg.1; have := w16.1; omega) w15
  have sz : H.2.1 ≤ gd.2.1 := by have := hg.1; have := T6.2.2.1; omega
  have oa : oC gd a := by
    obtain ⟨hl, f, hf⟩ := w16
    exact ⟨by omega, f, ka.2.trans ((hg.2.1 a hl).trans hf)⟩
  obtain ⟨g3, e7, e8, e9, e10, e11⟩ := oC_sL oa (Int32.ofNat no).toInt64
  have b1 := fd 1 (by omega) (by omega) (by omega)
  have b10 := fd (N.1 + 10) (by omega) (by omega) (by omega)
  have r1 : gR (cH p s g9) x 0 1 = some (p.1 (N.1 + 10)) := by rw [← w4]; exact c_gR w1.1 iX.1 rfl iX.2.2.1
  have r2 : gR (cH p s g9) (p.1 (N.1 + 10)) 4 1 = some (p.1 (N.1 + 13)) := c_gR w1.1 iB.1 rfl iB.2.2.1
  have r3 : gR (cH pd sd gd) x 0 1 = some (pd.1 (N.1 + 10)) := by rw [← w4, ← b1.1]; exact c_gR T6.1.1 (b1.2.1.trans iX.1) rfl (by rw [b1.2.2.2.2]; exact iX.2.2.1)
  have r4 : gR (cH pd sd gd) (pd.1 (N.1 + 10)) 4 1 = some (pd.1 (N.1 + 13)) := c_gR T6.1.1 (b10.2.1.trans iB.1) rfl (by rw [b10.2.2.2.2]; exact iB.2.2.1)
  refine ⟨cH pd sd gd, cH pd sd g3, ?_, by rw [r_sL ka.1, e7]; rfl, by rw [r_dL ka.1]; exact e8, pd, sd, (N.1, (N.2.1, (no + 1, N.2.2.2))), mo, nb, ⟨Kp_g T6.1 (by rw [show (cH pd sd g3).2 = g3.2 from rfl, e10]; exact Nat.le_refl _), cH_idem _ _ _, ⟨T6.1.1, fun b hb => T6.1.2.1 b (by rw [show (cH pd sd g3).2 = g3.2 from rfl, e10] at hb; exact hb), ?_, ?_, ?_, h2⟩, b1.1.trans w4⟩, ⟨?_, ?_, RR_cg w7 w6.1.2.2.2 (fun d hd _ => by have k := fd d (by omega) (by omega) (by omega); exact ⟨k.2.2.1, k.2.2.2.1⟩) (fun y hy => ?_), IR_cg w8 w6.1.2.2.2 (fun y hy => ?_), fun f m e hf hm he => ?_⟩, ⟨w10, by omega, fun d d1 d2 => by rw [sS d (by omega) (by omega)]; exact w12 d d1 d2, by omega, ?_⟩, ⟨ka.1, ⟨e9.1, ?_⟩, fun b d1 d2 => (T6.2.1 b (by have := hg.1; omega) (w17 b d1 d2)).1, ?_, w19⟩, ⟨fun k k1 k2 => ?_, A2.2⟩, fun k hk => ?_, ?_⟩
  · unfold opT f_X14_init_2 f_X14_init_2_b0 f_X14_init f_X14_init_b0
    rw [r1, b1_some, r2, b1_some, e1, b2_some, e3, b1_some, e4, b1_some, e5, b1_some, b2_some, b2_some, ← y13.1, c_cko T5.1.1 lc.1.1, b1_some, ← q2, e6, b2_some, r3, b1_some, r4, b1_some, c_cko T6.1.1 A2.1.1, b1_some, b_size T6.1.1 A2.1 E, b2_some, show (1 : Int32) = Int32.ofNat 1 from rfl, i32_sub (by omega) (by omega), show no + 1 - 1 = no by omega]
  · obtain ⟨x1, x2, x3, x4, x5, x6, x7, x8, x9, x10, x11⟩ := iX
    have R1 := b1.2.2.2.2
    exact ⟨b1.2.1.trans x1, (congrFun R1 0).trans x2, (congrFun R1 1).trans x3, (congrFun R1 2).trans x4, (congrFun R1 3).trans x5, (congrFun R1 4).trans x6, (congrFun R1 5).trans x7, (congrFun R1 6).trans x8, (sS 21 (by omega) (by omega)).trans x9, (sS 22 (by omega) (by omega)).trans x10, (sS 23 (by omega) (by omega)).trans x11⟩
  · refine iBk_cg iB (fun d hd => ?_) h8 (show no + 1 ≤ 16 by omega) ?_ A2.1 (fun f hf => iFr_cg (iB.2.2.2.2.2.2.2.2.2.2.2.2.1 f hf) (fun d hd => ?_)) (fun k hk => ?_)
    · have k := fd d (by omega) (by omega) (by omega)
      exact ⟨k.2.1, k.2.2.2.2⟩
    · have k := fd (N.1 + 11) (by omega) (by omega) (by omega)
      have k2 := fd (N.1 + 12) (by omega) (by omega) (by omega)
      exact lst_cg iB.2.2.2.2.2.2.2.2.2.1 k.2.1 k.2.2.1 k.2.2.2.2 k2.2.1 k2.2.2.2.2
    · have hf2 : f < N.2.1 := hf
      have k := fd d (by omega) (by omega) (by omega)
      exact ⟨k.2.1, k.2.2.2.2⟩
    · have hk2 : k < no + 1 := hk
      by_cases w : k = no
      · rw [w]; exact od.1
      · rw [sS _ (by omega) (by omega)]; exact sho k (by omega)
  · exact iRu_cg w3.2.2.2.2.1 (fun d d1 _ _ => by have k := fd d (by omega) (by omega) (by omega); exact ⟨k.2.1, k.2.2.1, k.2.2.2.2⟩)
  · obtain ⟨⟨a1, a2, a3, a4⟩, hF, hO, hC, hSp, hD, hRe, hIv⟩ := w5
    have po : ∀ z, z ≠ 3 → z < 186 + 4 * no ∨ 190 + 4 * no ≤ z → puO t.1 no i xx yy z = t.1 z := fun z z1 z2 => by
      unfold puO
      rw [if_neg z1, if_neg (by omega), if_neg (by omega), if_neg (by omega), if_neg (by omega)]
    refine ⟨⟨(po 0 (by omega) (by omega)).trans a1, by rw [b10.2.2.1]; exact a2, (po 2 (by omega) (by omega)).trans a3, (show puO t.1 no i xx yy 3 = Int64.ofNat (no + 1) from if_pos rfl)⟩, fun j hj => (fun (hj : j < N.2.1) => frR_cg (hF j hj) (by have k := fd (N.1 + 130 + j) (by omega) (by omega) (by omega); exact ⟨k.2.2.1, k.2.2.2.1⟩) (by have k := fd (N.1 + 140 + j) (by omega) (by omega) (by omega); exact ⟨k.2.2.1, k.2.2.2.1⟩) (fun y hy => po _ (by omega) (by omega))) hj, fun k hk => ?_, fun d hd => ?_, fun k hk => ?_, fun f hf k hk => ?_, fun f hf m hm => ?_, fun f hf m hm => ?_⟩
    · by_cases w : k = no
      · rw [w]
        refine ⟨?_, ⟨30 * yy + xx, by omega, od.2.1, ?_, ?_⟩, ?_⟩
        · rw [od.2.2.1, i32_64 (by omega)]
          show puO t.1 no i xx yy (186 + 4 * no + 0) = _
          unfold puO
          rw [if_neg (by omega), if_neg (by omega), if_neg (by omega), if_neg (by omega), if_pos rfl]
        · rw [show (30 * yy + xx) % 30 = xx by omega]
          show puO t.1 no i xx yy (186 + 4 * no + 1) = _
          unfold puO
          rw [if_neg (by omega), if_neg (by omega), if_neg (by omega), if_pos rfl]
        · rw [show (30 * yy + xx) / 30 = yy by omega]
          show puO t.1 no i xx yy (186 + 4 * no + 2) = _
          unfold puO
          rw [if_neg (by omega), if_neg (by omega), if_pos rfl]
        · rw [od.2.2.2]
          show puO t.1 no i xx yy (186 + 4 * no + 3) = _
          unfold puO
          rw [if_neg (by omega), if_pos rfl]
      · have kk := fd (N.1 + 170 + k) (by omega) (by omega) (by omega)
        have hk2 : k < no := by have : k < no + 1 := hk; omega
        exact ouR_cg (hO k hk2) ⟨kk.2.2.1, kk.2.2.2.1⟩ (fun y hy => po _ (by omega) (by omega))
    · rw [(fd (N.1 + 16) (by omega) (by omega) (by omega)).2.2.1]; exact (po _ (by omega) (by omega)).trans (hC d hd)
    · rw [(fd (N.1 + 20) (by omega) (by omega) (by omega)).2.2.2.1]; exact (po _ (by omega) (by omega)).trans (hSp k hk)
    · rw [(fd (N.1 + 190 + f) (by omega) (by omega) (by omega)).2.2.2.1]; exact (po _ (by omega) (by omega)).trans (hD f hf k hk)
    · have hf2 : f < N.2.1 := hf
      rw [(fd (N.1 + 160 + f) (by omega) (by omega) (by omega)).2.2.2.1]; exact (po _ (by omega) (by omega)).trans (hRe f hf m hm)
    · have hf2 : f < N.2.1 := hf
      obtain ⟨e, x1, x2, x3⟩ := hIv f hf m hm
      have xe := w9 f m e hf hm x1
      have k := fd e (by omega) (by omega) (by omega)
      refine ⟨e, by rw [(fd (N.1 + 150 + f) (by omega) (by omega) (by omega)).2.2.2.2]; exact x1, k.2.1.trans x2, fun y hy => ?_⟩
      rw [k.2.2.2.1]
      exact (po _ (by omega) (by omega)).trans (x3 y hy)
  · obtain ⟨⟨b1, b2, b3, b4⟩, hF, hO, hC, hR, hD⟩ := w6
    have po : ∀ z, z ≠ 3 → z < 186 + 4 * no ∨ 190 + 4 * no ≤ z → puO t.1 no i xx yy z = t.1 z := fun z z1 z2 => by
      unfold puO
      rw [if_neg z1, if_neg (by omega), if_neg (by omega), if_neg (by omega), if_neg (by omega)]
    refine ⟨⟨b1, b2, (show no + 1 ≤ 16 by omega), b4⟩, fun j hj => frI_cg (frI_n (hF j hj) (Nat.le_succ n)) (fun y hy => po _ (by have : j < N.2.1 := hj; omega) (by have : j < N.2.1 := hj; omega)), fun k hk => ?_, fun d hd => ?_, fun f hf m hm => ⟨?_, fun y hy => ?_⟩, fun f hf k hk hz => ?_⟩
    · by_cases w : k = no
      · rw [w]
        refine ⟨?_, ?_⟩
        · have e : puO t.1 no i xx yy (186 + 4 * no + 0) = Int64.ofNat i := by
            unfold puO
            rw [if_neg (by omega), if_neg (by omega), if_neg (by omega), if_neg (by omega), if_pos rfl]
          show btw (puO t.1 no i xx yy (186 + 4 * no + 0)) (-1) (N.2.1 - 1)
          rw [e]
          unfold btw
          rw [Int64.toInt_ofNat_of_lt (by omega)]
          omega
        · have e : puO t.1 no i xx yy (186 + 4 * no + 3) = 0 := by
            unfold puO
            rw [if_neg (by omega), if_pos rfl]
          show btw (puO t.1 no i xx yy (186 + 4 * no + 3)) 0 10000000
          rw [e]
          exact ⟨by decide, by decide⟩
      · have hk2 : k < no := by have : k < no + 1 := hk; omega
        show btw (puO t.1 no i xx yy _) _ _ ∧ btw (puO t.1 no i xx yy _) _ _
        rw [po _ (by omega) (by omega), po _ (by omega) (by omega)]
        exact hO k hk2
    · show btw (puO t.1 no i xx yy _) _ _
      rw [po _ (by omega) (by omega)]; exact hC d hd
    · show btw (puO t.1 no i xx yy _) _ _
      rw [po _ (by omega) (by omega)]; exact (hR f hf m hm).1
    · show btw (puO t.1 no i xx yy _) _ _
      rw [po _ (by omega) (by omega)]; exact (hR f hf m hm).2 y hy
    · show puO t.1 no i xx yy _ = 0
      rw [po _ (by omega) (by omega)]; exact hD f hf k hk hz
  · show puO t.1 no i xx yy y = t.1 y
    unfold puO
    rw [if_neg (by omega), if_neg (by omega), if_neg (by omega), if_neg (by omega), if_neg (by omega)]
  · show puO t.1 no i xx yy y = t.1 y
    unfold puO
    rw [if_neg (by omega), if_neg (by omega), if_neg (by omega), if_neg (by omega), if_neg (by omega)]
  · have hf2 : f < N.2.1 := hf
    have he : sd.2.2.2 (N.1 + 150 + f) m = some e := he
    rw [(fd (N.1 + 150 + f) (by omega) (by omega) (by omega)).2.2.2.2] at he
    exact w9 f m e hf hm he
  · have := w14.1; have := w14.2; have := hg.2.2.1; have := hg.2.2.2; have := T6.2.2.2.1; have := T6.2.2.2.2
    refine ⟨?_, ?_⟩
    · show 400 * c ≤ g3.2.2.1
      rw [e10]; omega
    · show 4400 * c ≤ g3.2.2.2
      rw [e10]; omega
  · obtain ⟨f, hf⟩ := e9.2
    exact ⟨f, by rw [cH_raw ka.1]; exact hf⟩
  · show q + 10 ≤ g3.2.1
    rw [e10]; omega
  · have k1 : no + 1 ≤ k := k1
    show (sd.1 (N.1 + 170 + k)).1 = 0
    rw [sS _ (by omega) (by omega)]; exact w20 k (by omega) k2
  · refine Sn_keep hk (w22 k hk) ⟨rfl, rfl⟩ (congrFun (fd 21 (by omega) (by omega) (by omega)).2.2.2.2 k) (fun u u1 u2 u3 => ⟨u3, fun d d1 d2 => by have z := fd d (by omega) (by omega) (by omega); exact ⟨z.2.1, z.2.2.1, z.2.2.2.1, z.2.2.2.2⟩⟩) (fun e he hs => by have z := fd e (by omega) (by omega) (by omega); exact ⟨z.2.1.trans hs, z.2.2.2.1⟩) (Nat.le_refl _) (Nat.le_succ n) rfl (fun y y1 y2 => ?_) (fun y hy => ?_)
    · show puO t.1 no i xx yy y = t.1 y
      unfold puO
      rw [if_neg (by omega), if_neg (by omega), if_neg (by omega), if_neg (by omega), if_neg (by omega)]
    · show puO t.1 no i xx yy y = t.1 y
      have hy2 : y ≠ 3 ∧ y < 186 := by rcases hy with hy | hy | hy | ⟨j, hj, hy⟩ <;> omega
      unfold puO
      rw [if_neg (by omega), if_neg (by omega), if_neg (by omega), if_neg (by omega), if_neg (by omega)]
  · refine hX s sd _ _ t _ (fun d d1 _ _ => ?_) (rvw_le (by rw [show (cH pd sd g3).2 = g3.2 from rfl, e10]; exact sz) (fun b hb hn ha _ => ?_)) (fun k hk => cu_ne _ _ hk) (fun _ _ => rfl) (fun j hj => ?_) w23
    · have z := fd d (by omega) (by omega) (by omega)
      exact ⟨z.2.1, z.2.2.1, z.2.2.2.1, fun _ => z.2.2.2.2⟩
    · have z := rawd b hb hn ha
      exact ⟨z.1, by rw [cH_raw z.1]; exact (e11 b ha).trans z.2⟩
    · show puO t.1 no i xx yy _ = _
      unfold puO
      rw [if_neg (by omega), if_neg (by omega), if_neg (by omega), if_neg (by omega), if_neg (by omega)]
end WO
