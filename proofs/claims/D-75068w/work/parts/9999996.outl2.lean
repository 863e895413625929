/-! outlet, as a whole -/
set_option maxRecDepth 100000
section OU
variable {E : zE} {p : cP} {s : cT} {g : zH} {t : twS} {nb nf no : Nat}
/-- the outlet is made and added -/
theorem K_outl (hK : Kp p s g) (hr : rm g 2 300) (hnb : 400 ≤ nb ∧ nb + 10000 ≤ XT) (hB : iBk s nb nf no) (hl : lsc s (nb + 13) (nb + 14) no (fun k => nb + 170 + k)) (hno : no < 16) (hz : (s.1 (nb + 170 + no)).1 = 0) (ce i : Int32) : ∃ p1 s1 g1, (bnd2 (nO (cH p s g) 13 3 [.int 0, .int 0, .long 0]) fun q15 h16 => bnd2 (f_X14_init_2 E q15 ce i h16) fun x20 h18 => (cko h18 (p.1 (nb + 13)) 15).bind fun _ => bnd2 (f_J2_add E (p.1 (nb + 13)) q15 h18) fun x24 h22 => some ((Sum.inl () : Unit ⊕ (Nat × Nat)), h22)) = some (.inl (), cH p1 s1 g1) ∧ Tr p g p1 s1 g1 2 203 ∧ lsc s1 (nb + 13) (nb + 14) (no + 1) (fun k => nb + 170 + k) ∧ (s1.1 (nb + 170 + no) = (1, 13) ∧ s1.2.1 (nb + 170 + no) 0 = ce ∧ s1.2.1 (nb + 170 + no) 1 = i ∧ s1.2.2.1 (nb + 170 + no) 2 = 0) ∧ (∀ d, d ≠ nb + 170 + no → d ≠ nb + 13 → d ≠ nb + 14 → p1.1 d = p.1 d ∧ s1.1 d = s.1 d ∧ s1.2.1 d = s.2.1 d ∧ s1.2.2.1 d = s.2.2.1 d ∧ s1.2.2.2 d = s.2.2.2 d) ∧ ∀ d, d ≠ nb + 170 + no → d ≠ nb + 14 → s1.1 d = s.1 d := by
  have XTv : XT = 1000000 := rfl
  obtain ⟨e1, T1⟩ := Tr_new (fs := [.int 0, .int 0, .long 0]) (Tr_0 hK) hr (nb + 170 + no) 13 3 (by decide) (by decide) hz (by omega) rfl
  generalize hp2 : pA p (nb + 170 + no) g.2.1 = p2 at e1 T1
  generalize hs2 : sNw s (nb + 170 + no) (1, 13) = s2 at e1 T1
  generalize hg2 : zadd g (true, .inr (13, [.int 0, .int 0, .long 0])) 3 = g2 at e1 T1
  have f2 : ∀ d, d ≠ nb + 170 + no → p2.1 d = p.1 d ∧ s2.1 d = s.1 d ∧ s2.2.1 d = s.2.1 d ∧ s2.2.2.1 d = s.2.2.1 d ∧ s2.2.2.2 d = s.2.2.2 d := fun d hd => by
    rw [← hp2, ← hs2]
    exact ⟨cu_ne p.1 _ hd, sNw_o s hd _⟩
  have q2 : p2.1 (nb + 170 + no) = g.2.1 := by rw [← hp2]; exact cu_same _ _ _
  have c2 : s2.1 (nb + 170 + no) = (1, 13) := by rw [← hs2]; exact cu_same _ _ _
  obtain ⟨e3, T3⟩ := Tr_I T1 (nb + 170 + no) 13 0 (v := ce) c2 rfl q2
  obtain ⟨e4, T4⟩ := Tr_I T3 (nb + 170 + no) 13 1 (v := i) c2 rfl q2
  obtain ⟨e5, T5⟩ := Tr_L T4 (nb + 170 + no) 13 2 (v := 0) c2 rfl q2
  generalize hs5 : uL (uI (uI s2 (nb + 170 + no) 0 ce) (nb + 170 + no) 1 i) (nb + 170 + no) 2 0 = s5 at e5 T5
  have f5 : ∀ d, d ≠ nb + 170 + no → p2.1 d = p.1 d ∧ s5.1 d = s.1 d ∧ s5.2.1 d = s.2.1 d ∧ s5.2.2.1 d = s.2.2.1 d ∧ s5.2.2.2 d = s.2.2.2 d := fun d hd => by
    have x := f2 d hd
    rw [← hs5]
    exact ⟨x.1, x.2.1, (show (uI (uI s2 (nb + 170 + no) 0 ce) (nb + 170 + no) 1 i).2.1 d = _ from (uI_row _ hd _ _).trans ((uI_row _ hd _ _).trans x.2.2.1)), (uL_row _ hd _ _).trans x.2.2.2.1, x.2.2.2.2⟩
  have o5 : s5.2.1 (nb + 170 + no) 0 = ce ∧ s5.2.1 (nb + 170 + no) 1 = i ∧ s5.2.2.1 (nb + 170 + no) 2 = 0 := by
    rw [← hs5]
    exact ⟨by rw [uL_I, uI_ne _ _ (Or.inr (by decide)), uI_s], by rw [uL_I, uI_s], by rw [uL_s]⟩
  have c5 : s5.1 (nb + 170 + no) = (1, 13) := by rw [← hs5]; exact c2
  have y13 := f5 (nb + 13) (by omega)
  have y14 := f5 (nb + 14) (by omega)
  have lc : lsc s5 (nb + 13) (nb + 14) no (fun k => nb + 170 + k) := lsc_cg hl ⟨y13.2.1, y13.2.2.1, y13.2.2.2.2⟩ ⟨y14.2.1, y14.2.2.2.2⟩
  have sh : ∀ k, k < no → s5.1 (nb + 170 + k) = (1, 13) := fun k hk => by
    rw [(f5 _ (by omega)).2.1]; exact hB.2.2.2.2.2.2.2.2.2.2.2.2.2.1 k hk
  obtain ⟨pd, sd, gd, e6, A⟩ := J_add E T5.1 (c := nb + 13) (r := nb + 14) (n := no) (e := nb + 170 + no) lc (by omega) (by omega) (by omega) (ob_sh T5.1 c5) (Or.inl (by rw [c5]; exact Nat.succ_ne_zero _)) (fun k hk => ob_sh T5.1 (sh k hk)) (Tr_rm T5 hr (by decide) (by decide))
  have T6 := Tr_ad T5 A
  obtain ⟨A1, A2, A3, A4, A5, A6⟩ := A
  have A2 : lsc sd (nb + 13) (nb + 14) (no + 1) (fun k => nb + 170 + k) := lsc_el A2 (fun k hk => by
    by_cases w : k = no
    · rw [if_pos w, w]
    · rw [if_neg w])
  refine ⟨pd, sd, gd, ?_, Tr_w T6 (by decide) (by decide), A2, ⟨((A3 _ (by omega)).2.1).trans c5, (congrFun (A4 _ (by omega)) 0).trans o5.1, (congrFun (A4 _ (by omega)) 1).trans o5.2.1, (congrFun (congrFun A5 _) 2).trans o5.2.2⟩, fun d d1 d2 d3 => ?_, fun d d1 d2 => ((A3 d d2).2.1).trans (f5 d d1).2.1⟩
  · unfold f_X14_init_2 f_X14_init_2_b0 f_X14_init f_X14_init_b0
    rw [e1, b2_some, e3, b1_some, e4, b1_some, e5, b1_some, b2_some, b2_some, ← y13.1, c_cko T5.1.1 lc.1.1, b1_some, ← q2, e6, b2_some]
  · have x := f5 d d1
    have y := A3 d d3
    exact ⟨y.1.trans x.1, y.2.1.trans x.2.1, (A4 d d2).trans x.2.2.1, (congrFun A5 d).trans x.2.2.2.1, y.2.2.trans x.2.2.2.2⟩
end OU
section CG
variable {nb z c7 c8 c9 np nf no cnt : Nat} {nt na : Nat → Nat} {nm : Nat → List Nat} {s s1 : cT} {v v1 : Nat → Option zC} {T T1 : Nat → Int64}
theorem Mk_outl (h : Mk nb z c7 c8 c9 np nf no cnt nt na nm s v T) (hz : nb + 500 ≤ z) {i xx yy : Nat} (hi : i < nf) (hx : xx < 30) (hy : yy < 30) (hno : no < 16) (hl : lsc s1 (nb + 13) (nb + 14) (no + 1) (fun k => nb + 170 + k)) (ho : s1.1 (nb + 170 + no) = (1, 13) ∧ s1.2.1 (nb + 170 + no) 0 = Int32.ofNat (30 * yy + xx) ∧ s1.2.1 (nb + 170 + no) 1 = Int32.ofNat i ∧ s1.2.2.1 (nb + 170 + no) 2 = 0) (hf : ∀ d, d ≠ nb + 170 + no → d ≠ nb + 13 → d ≠ nb + 14 → s1.1 d = s.1 d ∧ s1.2.1 d = s.2.1 d ∧ s1.2.2.1 d = s.2.2.1 d ∧ s1.2.2.2 d = s.2.2.2 d) (hv : svw v v1) (hT : T1 = puO T no i xx yy) : Mk nb z c7 c8 c9 np nf (no + 1) cnt nt na nm s1 v1 T1 := by
  obtain ⟨hB, hR, hN, hcn, k7, k8, k9, k10⟩ := h
  obtain ⟨⟨a1, a2, a3⟩, hRB, hV, ⟨z1, z2, z3⟩, f1, f2⟩ := hB
  have h8 := a1.2.2.2.2.2.2.2.1
  have po : ∀ z, z ≠ 3 → z < 186 + 4 * no ∨ 190 + 4 * no ≤ z → T1 z = T z := fun z z1 z2 => by
    rw [hT]
    unfold puO
    rw [if_neg z1, if_neg (by omega), if_neg (by omega), if_neg (by omega), if_neg (by omega)]
  have t3 : T1 3 = Int64.ofNat (no + 1) := by rw [hT]; exact if_pos rfl
  have tk : T1 (186 + 4 * no + 0) = Int64.ofNat i ∧ T1 (186 + 4 * no + 1) = Int64.ofNat xx ∧ T1 (186 + 4 * no + 2) = Int64.ofNat yy ∧ T1 (186 + 4 * no + 3) = 0 := by
    rw [hT]
    unfold puO
    refine ⟨?_, ?_, ?_, ?_⟩
    · rw [if_neg (by omega), if_neg (by omega), if_neg (by omega), if_neg (by omega), if_pos rfl]
    · rw [if_neg (by omega), if_neg (by omega), if_neg (by omega), if_pos rfl]
    · rw [if_neg (by omega), if_neg (by omega), if_pos rfl]
    · rw [if_neg (by omega), if_pos rfl]
  have l12 := hf (nb + 12) (by omega) (by omega) (by omega)
  have l11 := hf (nb + 11) (by omega) (by omega) (by omega)
  have n7 : c7 ≠ nb + 202 ∧ (c7 = nb + 207 ∨ nb + 500 ≤ c7) := by clear k8 k9; omega
  have n8 : c8 ≠ nb + 202 ∧ (c8 = nb + 208 ∨ nb + 500 ≤ c8) := by clear k7 k9; omega
  have n9 : c9 ≠ nb + 202 ∧ (c9 = nb + 209 ∨ nb + 500 ≤ c9) := by clear k7 k8; omega
  refine ⟨⟨⟨iBk_cg a1 (fun d hd => ?_) h8 (by omega) (lst_cg a1.2.2.2.2.2.2.2.2.2.1 l11.1 l11.2.1 l11.2.2.2 l12.1 l12.2.2.2) hl.1 (fun j hj => iFr_cg (a1.2.2.2.2.2.2.2.2.2.2.2.2.1 j hj) (fun d hd => ?_)) (fun j hj => ?_), lsc_cg a2 ⟨l11.1, l11.2.1, l11.2.2.2⟩ ⟨l12.1, l12.2.2.2⟩, hl⟩, ?_, ?_, ⟨fun j i1 i2 x x1 x2 => ?_, fun f hf g hg => ?_, fun j hj => ?_⟩, fun j i1 i2 => ?_, fun j i1 i2 => ?_⟩, ?_, ?_, ?_, k7, k8, k9, k10⟩
  · clear k7 k8 k9
    have k := hf d (by omega) (by omega) (by omega); exact ⟨k.1, k.2.2.2⟩
  · clear k7 k8 k9
    have k := hf d (by omega) (by omega) (by omega); exact ⟨k.1, k.2.2.2⟩
  · clear k7 k8 k9
    by_cases w : j = no
    · rw [w]; exact ho.1
    · rw [(hf _ (by omega) (by omega) (by omega)).1]; exact a1.2.2.2.2.2.2.2.2.2.2.2.2.2.1 j (by omega)
  · clear k7 k8 k9
    obtain ⟨⟨b1, b2, b3, b4⟩, hF, hO, hC, hSp, hD, hRe, hIv⟩ := hRB
    refine ⟨⟨(po 0 (by omega) (by omega)).trans b1, by rw [(hf (nb + 10) (by omega) (by omega) (by omega)).2.1]; exact b2, (po 2 (by omega) (by omega)).trans b3, t3⟩, fun j hj => frR_cg (hF j hj) ?_ ?_ (fun x hx => po _ (by omega) (by omega)), fun k hk => ?_, fun c c1 => ?_, fun k hk => ?_, fun f hf9 g hg => ?_, fun f hf m hm => absurd hm (Nat.not_lt_zero _), fun f hf m hm => absurd hm (Nat.not_lt_zero _)⟩
    · have k := hf (nb + 130 + j) (by omega) (by omega) (by omega); exact ⟨k.2.1, k.2.2.1⟩
    · have k := hf (nb + 140 + j) (by omega) (by omega) (by omega); exact ⟨k.2.1, k.2.2.1⟩
    · by_cases w : k = no
      · rw [w]
        refine ⟨?_, ⟨30 * yy + xx, by omega, ho.2.1, ?_, ?_⟩, ?_⟩
        · rw [ho.2.2.1, i32_64 (by omega)]; exact tk.1
        · rw [show (30 * yy + xx) % 30 = xx by omega]; exact tk.2.1
        · rw [show (30 * yy + xx) / 30 = yy by omega]; exact tk.2.2.1
        · rw [ho.2.2.2]; exact tk.2.2.2
      · have kk := hf (nb + 170 + k) (by omega) (by omega) (by omega)
        exact ouR_cg (hO k (by omega)) ⟨kk.2.1, kk.2.2.1⟩ (fun y hy => po _ (by omega) (by omega))
    · rw [(hf (nb + 16) (by omega) (by omega) (by omega)).2.1]; exact (po _ (by omega) (by omega)).trans (hC c c1)
    · rw [(hf (nb + 20) (by omega) (by omega) (by omega)).2.2.1]; exact (po _ (by omega) (by omega)).trans (hSp k hk)
    · rw [(hf (nb + 190 + f) (by omega) (by omega) (by omega)).2.2.1]; exact (po _ (by omega) (by omega)).trans (hD f hf9 g hg)
  · clear k7 k8 k9
    obtain ⟨⟨b1, b2, b3, b4⟩, hF, hO, hC, hRr, hD⟩ := hV
    refine ⟨⟨b1, b2, by omega, b4⟩, fun j hj => frI_cg (hF j hj) (fun x hx => po _ (by omega) (by omega)), fun k hk => ?_, fun c c1 => by rw [po _ (by omega) (by omega)]; exact hC c c1, fun f hf m hm => absurd hm (Nat.not_lt_zero _), fun f hf g hg hz => by rw [po _ (by omega) (by omega)]; exact hD f hf g hg hz⟩
    by_cases w : k = no
    · rw [w, tk.1, tk.2.2.2]
      refine ⟨?_, by decide, by decide⟩
      unfold btw
      rw [Int64.toInt_ofNat_of_lt (by omega)]
      omega
    · rw [po _ (by omega) (by omega), po _ (by omega) (by omega)]; exact hO k (by omega)
  · clear k7 k8 k9
    rw [po _ (by omega) (by omega)]; exact z1 j i1 i2 x x1 x2
  · clear k7 k8 k9
    rw [po _ (by omega) (by omega)]; exact z2 f hf g hg
  · clear k7 k8 k9
    by_cases w : j = no
    · rw [w, ho.2.2.1]; exact i32_neg1 (by omega)
    · rw [(hf _ (by omega) (by omega) (by omega)).2.1]; exact z3 j (by omega)
  · clear k7 k8 k9
    rw [(hf _ (by omega) (by omega) (by omega)).1, (hf _ (by omega) (by omega) (by omega)).1, (hf _ (by omega) (by omega) (by omega)).1, (hf _ (by omega) (by omega) (by omega)).1]; exact f1 j i1 i2
  · clear k7 k8 k9
    rw [(hf _ (by omega) (by omega) (by omega)).1]; exact f2 j (by omega) i2
  · clear k7 k8 k9
    have s2 := hf (nb + 202) (by omega) (by omega) (by omega)
    exact MkR_cg hR (fun d hd => by have k := hf d (by omega) (by omega) (by omega); exact ⟨k.1, fun _ => k.2.1, k.2.2⟩) (congrFun s2.2.1 7) (congrFun s2.2.1 8) ⟨n7.1, n8.1, n9.1⟩ (fun y y1 y2 _ y4 => po y y4 (by omega))
  · clear k7 k8 k9
    have s2 := hf (nb + 202) (by omega) (by omega) (by omega)
    have s5 := hf (nb + 205) (by omega) (by omega) (by omega)
    have s6 := hf (nb + 206) (by omega) (by omega) (by omega)
    exact MkN_cg hN ⟨s2.1, congrFun s2.2.2.2 1⟩ ⟨s5.1, s5.2.1, s5.2.2.2⟩ ⟨s6.1, s6.2.2.2⟩ hv (po 2 (by omega) (by omega)) (fun j hj => po _ (by omega) (by omega))
  · clear k7 k8 k9
    rw [(hf (nb + 202) (by omega) (by omega) (by omega)).2.1]; exact hcn
end CG
section LO
variable {E : zE} {p0 : cP} {g0 : zH} {s0 : cT} {t0 : twS} {nb k m ps z kd : Nat} {p : cP} {s : cT} {g : zH} {t : twS} {c7 c8 c9 np nf no cnt : Nat} {nt na : Nat → Nat} {nm : Nat → List Nat}
theorem L_outlet (hE : 20000 ≤ E.1) (h : Ld p0 g0 s0 t0 nb k m ps z kd p s g t) (hM : Mk nb z c7 c8 c9 np nf no cnt nt na nm s (rv0 p g) (dr t)) (hr : rm g0 20000 220000) (hq : bq nb (k + 40) (m + 400) (z + 40)) (hnb : nb + 10000 ≤ XT) (hL : Lt E (rv0 p0 g0)) (hsv : svw (rv0 p0 g0) (rv0 p g)) (hkd : kd ≠ 0) : BoO E p0 g0 s0 t0 nb cnt k m ps z (p.1 (nb + 400)) (f_X7_outlet E (p.1 (nb + 400)) (cH p s g)) (t_X6_readOutlet E t) := by
  obtain ⟨q1, q2, q3⟩ := hq
  have zb := h.2.2.2.2.1
  have n400 := h.2.2.2.2.2.2.2
  have hp := h.1.1.1
  have hrd := (Ld_kd h).1
  have hc := c_cko (g := g) hp hrd
  have iB := hM.1.1.1
  have hl := iB.2.2.2.2.2.2.2.2.2.2.1
  have h16 := iB.2.2.2.2.2.2.2.2.1
  have r2 : gR (cH p s g) (p.1 (nb + 400)) 6 2 = some (p.1 (nb + 10)) := c_gR hp hrd rfl h.2.2.2.2.2.2.1
  have e3 : tdL t 1 (15165 : Int32) = some (Int64.ofNat no) := (y_d (t := t) (k := 15165) (by decide)).trans (congrArg some hM.1.2.1.1.2.2.2)
  unfold f_X7_outlet f_X7_outlet_b0 f_X7_outlet_b23 t_X6_readOutlet t_X6_readOutlet_b0 t_X6_readOutlet_b46 f_X7_named f_X7_named_b0
  rw [r2, b1_some, c_gR hp iB.1 rfl iB.2.2.1, b1_some, c_cko hp hl.1, b1_some, b_size hp hl E, b2_some, hc, b1_some, e3, b1_some]
  by_cases q : no = 16
  · obtain ⟨a9, H, t9, o1, o2, o3, -⟩ := L_fail (E := E) h hr (by omega) (by omega) hnb h.2.2.1 (Ld_kd h).2.2.2.2.1 (c := 4) (by decide)
    refine Or.inr ⟨a9, H, t9, ?_, ?_, o3⟩
    · rw [if_pos (by rw [q]; decide), o1, b2_some, el_r]
    · rw [b1_some, if_pos (by rw [q]; rfl), o2, b2_some, zgd0, b1_some]
  rw [if_neg (by rw [show (16 : Int32) = Int32.ofNat 16 from rfl, i32_le (by decide) (by omega)]; omega), b1_some, if_neg (show ¬ Int64.ofNat no = (16 : Int64) from fun w => q ((i64_eq (b := 16) (by omega) (by decide)).mp w)), req_t, b2_some, el_l, hc, b1_some]
  obtain ⟨p1, s1, g1, t1, ps1, kd1, a1, a2, h1, a4, a5, K1, -⟩ := L_s0 hE h hr ⟨by omega, by omega, by omega⟩ hnb hkd
  have M1 := Mk_Kq hM zb.1 K1 (show z ≤ z + 2 by omega)
  have ck1 := c_cko (g := g1) h1.1.1.1 (Ld_kd h1).1
  have r1 : gR (cH p1 s1 g1) (p1.1 (nb + 400)) 6 1 = some (p1.1 (nb + 202)) := c_gR h1.1.1.1 (Ld_kd h1).1 rfl h1.2.2.2.2.2.1
  rw [a1, b2_some, a2, b2_some, ← K1.2.1, ck1, b1_some, r1, b1_some, b1_some]
  rcases L_name (blk := 3) hE h1 hr ⟨by omega, by omega, by omega⟩ hnb hL (by decide) (M1.2.2.1.1) (svw_tr hsv K1.2.2.1) with ⟨i, p2, s2, g2, t2, ps2, kd2, hi, b1, b2, h2, b4, b5, K2⟩ | ⟨a9, H, t9, b1, b2, b3⟩
  rotate_left
  · refine Or.inr ⟨a9, H, t9, ?_, ?_, b3⟩
    · rw [b1, b2_some, el_r, b2_some, el_r]
    · rw [show (3 : Int32) = Int32.ofNat 3 from rfl, b2, b2_some, if_pos rfl]
  have hi8 : i < 8 := by have := M1.2.2.1.1.1.2.2.2; omega
  have ck2 := c_cko (g := g2) h2.1.1.1 (Ld_kd h2).1
  rw [b1, b2_some, el_l, b2_some, el_l, show (3 : Int32) = Int32.ofNat 3 from rfl, b2, b2_some, if_neg (i32_neg1 (by omega)), ← K2.2.1, ck2, b1_some]
  rcases L_num (E := E) hE h2 hr ⟨by omega, by omega, by omega⟩ hnb 0 29 with ⟨xx, p3, s3, g3, t3, ps3, kd3, x11, x12, x13, c1, c2, h3, c4, c5, K3, c6⟩ | ⟨a9, H, t9, c1, c2, c3⟩
  rotate_left
  · exact Or.inr ⟨a9, H, t9, by rw [c1, b2_some, el_r], by rw [c2, b2_some, if_pos rfl], c3⟩
  have hp3 := h3.1.1.1
  have ck3 := c_cko (g := g3) hp3 (Ld_kd h3).1
  rw [c1, b2_some, el_l, c2, b2_some, if_neg (by decide), ← K3.2.1, ck3, b1_some]
  rcases L_fig (E := E) h3 hr ⟨by omega, by omega, by omega⟩ hnb 0 29 with ⟨yy, kd2', y21, y22, y23, yv, g1', g2'⟩ | ⟨a9, H, t9, c1, c2, c3⟩
  rotate_left
  · exact Or.inr ⟨a9, H, t9, by rw [c1, b2_some, el_r], by rw [c2, b2_some, if_pos rfl], c3⟩
  have t29 : (29 : Int32).toInt = 29 := by decide
  rw [t29] at x13 y23
  have K13 := Kq_tr K1 (Kq_tr K2 K3 (by omega)) (by omega)
  have M3 := Mk_Kq hM zb.1 K13 (show z ≤ z + 2 + 2 + 2 by omega)
  obtain ⟨p4, s4, g4, t4, ps4, kd4, j1, j2, h4, j4, j5, K4, j7⟩ := L_s hE h3 hr ⟨by omega, by omega, by omega⟩ hnb (by omega) (Int32.ofNat yy)
  have M4 := Mk_Kq M3 (by omega) K4 (show z + 2 + 2 + 2 ≤ z + 2 + 2 + 2 + 2 by omega)
  have hx : xx < 30 := by omega
  have hy : yy < 30 := by omega
  have iB3 := M3.1.1.1
  have gr := iB3.2.2.2.2.2.2.2.2.2.2.2.1
  have r32 : gR (cH p3 s3 g3) (p3.1 (nb + 400)) 6 2 = some (p3.1 (nb + 10)) := c_gR hp3 (Ld_kd h3).1 rfl h3.2.2.2.2.2.2.1
  have ecell : (30 : Int32) * Int32.ofNat yy + Int32.ofNat xx = Int32.ofNat (30 * yy + xx) := by
    rw [show (30 : Int32) = Int32.ofNat 30 from rfl, ← Int32.ofNat_mul, ← Int32.ofNat_add]
  have hd : dI (cH p3 s3 g3) (p3.1 (nb + 16)) 2 (Int32.ofNat (30 * yy + xx)) = some (s3.2.1 (nb + 16) (30 * yy + xx)) := by
    rw [c_dI hp3 (t := 2) gr.2.2.2.2.1 (Or.inr (Or.inl rfl)) (by rw [nat_clamp (by omega)]; exact fun q => q.elim (i32_nneg (by omega)) (by omega)), nat_clamp (by omega)]
  have t15 : tSc t4 15 = Int32.ofNat yy := j7
  have t43 : t4.1 = t3.1 := K4.2.2.2.1
  have ycell : tdL t4 1 ((15412 : Int32) + (30 : Int32) * Int32.ofNat yy + Int32.ofNat xx) = some (s3.2.1 (nb + 16) (30 * yy + xx)).toInt64 := by
    have := M3.1.2.1.2.2.2.1 (30 * yy + xx) (by omega)
    rw [← this, show (15412 : Int32) = Int32.ofNat 15412 from rfl, show (30 : Int32) = Int32.ofNat 30 from rfl, ← Int32.ofNat_mul, ← Int32.ofNat_add, ← Int32.ofNat_add, y_d (by omega), t43]
    show some (t3.1 (15412 + 30 * yy + xx)) = some (t3.1 (15162 + (250 + (30 * yy + xx))))
    rw [show 15412 + 30 * yy + xx = 15162 + (250 + (30 * yy + xx)) by omega]
  unfold f_X1_cell f_X1_cell_b0 f_X7_outlet_b88 f_X7_outlet_b89 t_X6_readOutlet_b106
  rw [g1', b2_some, el_l, b2_some, ecell, r32, b1_some, c_gR hp3 iB3.1 rfl iB3.2.2.2.1, b1_some, c_gR hp3 gr.1 rfl gr.2.1, b1_some, hd, b1_some, g2', j2, b2_some, b2_some, if_neg (show ¬ (1 : Int32) = 0 by decide), t15, c6, ycell, b1_some]
  have fail5 : ∃ a H t9, f_X7_require E (p3.1 (nb + 400)) 0 5 (cH p3 s3 g3) = some (.inr (7, a), H) ∧ (bnd2 (t_X6_fail E (5 : Int32) (uSc t4 14 (tSc t3 14))) fun x6 s4_ => (zgd .boolean x6).bind fun _ => some (x6, s4_)) = some (0, t9) ∧ Fa p0 g0 s0 t0 nb H a t9 := by
    obtain ⟨a9, H, t9, o1, o2, o3, -⟩ := L_fail (E := E) h3 hr (by omega) (by omega) hnb (t2 := uSc t4 14 (tSc t3 14)) (twF_u h4.2.2.1 (by decide) _) (by rw [tSc_u, if_pos rfl]; exact (Ld_kd h3).2.2.2.2.1) (c := 5) (by decide)
    exact ⟨a9, H, t9, o1, by rw [o2, b2_some, zgd0, b1_some], o3⟩
  obtain ⟨a9, H, t9, o1, o2, o3⟩ := fail5
  by_cases w1 : s3.2.1 (nb + 16) (30 * yy + xx) = Int32.ofNat i
  · rw [if_pos w1, b1_some, if_pos (i32_64_inj.mpr w1), c_cko hp3 iB3.1, b1_some]
    have HO3 := ho_l (E := E) (g := g3) hp3 iB3 M3.1.2.2.2.1.2.2 (ce := 30 * yy + xx) no 0 (E.1 - no - 1) (by omega)
    have RB4 : RB s3 nb nf no 0 (dr t4) := by
      have := M3.1.2.1
      unfold dr at this ⊢
      rw [t43]; exact this
    have YR4 := yr_l (E := E) (t := t4) RB4 h16 hx hy no 0 (E.1 - no - 1) (by omega)
    rw [show E.1 - no - 1 + no + 1 = E.1 by omega] at HO3 YR4
    have HO3' : f_X4_hasOutlet E (p3.1 (nb + 10)) (Int32.ofNat (30 * yy + xx)) (cH p3 s3 g3) = _ := HO3
    have YR4' : t_X6_hasOutletRead E (Int32.ofNat xx) (Int32.ofNat yy) t4 = _ := YR4
    rw [HO3', b2_some, YR4', b2_some]
    by_cases w2 : ∃ q, 0 ≤ q ∧ q < no ∧ s3.2.1 (nb + 170 + q) 0 = Int32.ofNat (30 * yy + xx)
    · rw [bi_t w2, if_neg (by decide), if_neg (by decide)]
      refine Or.inr ⟨a9, H, t9, ?_, ?_, o3⟩
      · rw [ck3, b1_some, o1, b2_some, el_r]
      · exact o2
    · rw [bi_f w2, if_pos rfl, if_pos rfl, ck3, b1_some, req_t, b2_some, el_l, ck3, b1_some, j1, b2_some, ← K4.2.1]
      have hp4 := h4.1.1.1
      have iB4 := M4.1.1.1
      have r42 : gR (cH p4 s4 g4) (p4.1 (nb + 400)) 6 2 = some (p4.1 (nb + 10)) := c_gR hp4 (Ld_kd h4).1 rfl h4.2.2.2.2.2.2.1
      obtain ⟨p5, s5, g5, u1, T5, l5, o5, f5, s5'⟩ := K_outl (E := E) h4.1.1 (Tr_rm h4.1 hr (by omega) (by omega)) ⟨n400, hnb⟩ iB4 M4.1.1.2.2 (show no < 16 by omega) (M4.1.2.2.2.2.2 no (Nat.le_refl _) (by omega)) (Int32.ofNat (30 * yy + xx)) (Int32.ofNat i)
      obtain ⟨f, v1, v2, v3⟩ := y_put3 (E := E) (t := t4) (show no < 16 by omega) (M4.1.2.1.1.2.2.2) (i := i) hi8 hx hy
      have h5 := Ld_up h4 T5 (z1 := z + 2 + 2 + 2 + 2) (t1 := uSt t4 f) (fun d hd => f5 d (by omega) (by omega) (by omega)) (Nat.le_refl _) (by omega) (fun d d1 d2 => s5' d (by omega) (by omega)) ⟨fun y hy => v2 y hy, fun _ _ => rfl, fun _ _ _ => rfl, rfl⟩
      have M5 := Mk_outl (s1 := s5) (v1 := rv0 p5 g5) (T1 := dr (uSt t4 f)) M4 (by omega) hi hx hy (by omega) l5 o5 (fun d d1 d2 d3 => (f5 d d1 d2 d3).2) (svw_mono (rv0_Tr T5)) v3
      refine Or.inl ⟨p5, s5, g5, uSt t4 f, _, _, ps4, _, kd4, _, _, _, _, _, _, _, _, _, ?_, fun x t10 hx3 e3 => ?_, h5, M5, by omega, by omega, by omega, by omega, by omega, (f5 _ (by omega) (by omega) (by omega)).1⟩
      · rw [r42, b1_some, c_gR hp4 iB4.1 rfl iB4.2.2.1, b1_some, u1]
      · rw [t15, show t_X6_putOutlet E (Int32.ofNat 3) (Int32.ofNat i) (Int32.ofNat xx) (Int32.ofNat yy) t4 = _ from v1, b2_some]
        exact y_fin hx3 e3
  · rw [if_neg w1, b1_some, if_neg (fun w => w1 (i32_64_inj.mp w))]
    refine Or.inr ⟨a9, H, t9, ?_, ?_, o3⟩
    · rw [ck3, b1_some, o1, b2_some, el_r]
    · exact o2
end LO
