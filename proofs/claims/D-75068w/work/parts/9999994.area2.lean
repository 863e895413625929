/-! area, as a whole -/
set_option maxRecDepth 100000
section CG
variable {nb z c7 c8 c9 np nf no cnt : Nat} {nt na : Nat → Nat} {nm : Nat → List Nat} {s s1 : cT} {v v1 : Nat → Option zC} {T T1 : Nat → Int64}
theorem Mk_cells (h : Mk nb z c7 c8 c9 np nf no cnt nt na nm s v T) (hz : nb + 500 ≤ z) {i : Nat} (hi : i < nf) (e0 : s1.1 = s.1) (eR : s1.2.2 = s.2.2) (eI : ∀ d, d ≠ nb + 16 → s1.2.1 d = s.2.1 d) (hc : ∀ c, c < 900 → s1.2.1 (nb + 16) c = Int32.ofNat i ∧ T1 (250 + c) = (Int32.ofNat i).toInt64 ∨ s1.2.1 (nb + 16) c = s.2.1 (nb + 16) c ∧ T1 (250 + c) = T (250 + c)) (hT : ∀ y, y < 250 ∨ 1150 ≤ y → T1 y = T y) : Mk nb z c7 c8 c9 np nf no cnt nt na nm s1 v T1 := by
  obtain ⟨hB, hR, hN, hcn, k7, k8, k9, k10⟩ := h
  obtain ⟨⟨a1, a2, a3⟩, hRB, hV, ⟨z1, z2, z3⟩, f1, f2⟩ := hB
  have h8 := a1.2.2.2.2.2.2.2.1
  have h16 := a1.2.2.2.2.2.2.2.2.1
  have n7 : c7 ≠ nb + 16 := by clear k8 k9; omega
  have n8 : c8 ≠ nb + 16 := by clear k7 k9; omega
  have n9 : c9 ≠ nb + 16 := by clear k7 k8; omega
  have m7 : c7 ≠ nb + 202 := by clear k8 k9; omega
  have m8 : c8 ≠ nb + 202 := by clear k7 k9; omega
  have m9 : c9 ≠ nb + 202 := by clear k7 k8; omega
  have K : Mk nb z c7 c8 c9 np nf no cnt nt na nm s v T → True := fun _ => trivial
  clear K
  have R : s1.2.2.2 = s.2.2.2 := by rw [eR]
  have Lo : s1.2.2.1 = s.2.2.1 := by rw [eR]
  have sm : ∀ d, d ≠ nb + 16 → s1.1 d = s.1 d ∧ s1.2.1 d = s.2.1 d ∧ s1.2.2.1 d = s.2.2.1 d ∧ s1.2.2.2 d = s.2.2.2 d := fun d hd => ⟨by rw [e0], eI d hd, by rw [Lo], by rw [R]⟩
  have sh : ∀ d, s1.1 d = s.1 d ∧ s1.2.2.2 d = s.2.2.2 d := fun d => ⟨by rw [e0], by rw [R]⟩
  refine ⟨⟨⟨iBk_cg a1 (fun d _ => sh d) h8 h16 (lst_cg a1.2.2.2.2.2.2.2.2.2.1 (sh _).1 (eI _ (by omega)) (sh _).2 (sh _).1 (sh _).2) (lst_cg a1.2.2.2.2.2.2.2.2.2.2.1 (sh _).1 (eI _ (by omega)) (sh _).2 (sh _).1 (sh _).2) (fun j hj => iFr_cg (a1.2.2.2.2.2.2.2.2.2.2.2.2.1 j hj) (fun d _ => sh d)) (fun j hj => by rw [e0]; exact a1.2.2.2.2.2.2.2.2.2.2.2.2.2.1 j hj), lsc_cg a2 ⟨(sh _).1, eI _ (by omega), (sh _).2⟩ (sh _), lsc_cg a3 ⟨(sh _).1, eI _ (by omega), (sh _).2⟩ (sh _)⟩, ?_, ?_, ⟨fun j i1 i2 x x1 x2 => ?_, fun f hf g hg => ?_, fun k hk => by rw [eI _ (by omega)]; exact z3 k hk⟩, fun j i1 i2 => by rw [e0]; exact f1 j i1 i2, fun j i1 i2 => by rw [e0]; exact f2 j i1 i2⟩, ?_, ?_, (by rw [eI _ (by omega)]; exact hcn), k7, k8, k9, k10⟩
  · clear k7 k8 k9
    obtain ⟨⟨b1, b2, b3, b4⟩, hF, hO, hC, hSp, hD, hRe, hIv⟩ := hRB
    refine ⟨⟨(hT 0 (by omega)).trans b1, by rw [eI _ (by omega)]; exact b2, (hT 2 (by omega)).trans b3, (hT 3 (by omega)).trans b4⟩, fun j hj => frR_cg (hF j hj) ⟨eI _ (by omega), by rw [Lo]⟩ ⟨eI _ (by omega), by rw [Lo]⟩ (fun x hx => hT _ (by omega)), fun k hk => ouR_cg (hO k hk) ⟨eI _ (by omega), by rw [Lo]⟩ (fun x hx => hT _ (by omega)), fun c c1 => ?_, fun k hk => by rw [hT _ (by omega), Lo]; exact hSp k hk, fun f hf g hg => by rw [hT _ (by omega), Lo]; exact hD f hf g hg, fun f hf m hm => absurd hm (Nat.not_lt_zero _), fun f hf m hm => absurd hm (Nat.not_lt_zero _)⟩
    rcases hc c c1 with ⟨q1, q2⟩ | ⟨q1, q2⟩
    · rw [q1, q2]
    · rw [q1, q2]; exact hC c c1
  · clear k7 k8 k9
    obtain ⟨⟨b1, b2, b3, b4⟩, hF, hO, hC, hRr, hD⟩ := hV
    refine ⟨⟨b1, b2, b3, b4⟩, fun j hj => frI_cg (hF j hj) (fun x hx => hT _ (by omega)), fun k hk => by rw [hT _ (by omega), hT _ (by omega)]; exact hO k hk, fun c c1 => ?_, fun f hf m hm => absurd hm (Nat.not_lt_zero _), fun f hf g hg hz => by rw [hT _ (by omega)]; exact hD f hf g hg hz⟩
    rcases hc c c1 with ⟨q1, q2⟩ | ⟨q1, q2⟩
    · rw [q2, i32_64 (by omega)]
      unfold btw
      rw [Int64.toInt_ofNat_of_lt (by omega)]
      omega
    · rw [q2]; exact hC c c1
  · rw [hT _ (by omega)]; exact z1 j i1 i2 x x1 x2
  · rw [hT _ (by omega)]; exact z2 f hf g hg
  · exact MkR_cg hR (fun d hd => ⟨by rw [e0], fun _ => by
      rcases hd with hd | hd | hd | hd
      · exact eI d (by clear k7 k8 k9; omega)
      · rw [hd]; exact eI _ n7
      · rw [hd]; exact eI _ n8
      · rw [hd]; exact eI _ n9, by rw [Lo], by rw [R]⟩) (by rw [eI _ (by clear k7 k8 k9; omega)]) (by rw [eI _ (by clear k7 k8 k9; omega)]) ⟨m7, m8, m9⟩ (fun y y1 y2 _ _ => hT y (by clear k7 k8 k9; omega))
  · exact MkN_cg hN ⟨by rw [e0], by rw [R]⟩ ⟨by rw [e0], eI _ (by clear k7 k8 k9; omega), by rw [R]⟩ ⟨by rw [e0], by rw [R]⟩ (svw_rfl _) (hT 2 (by decide)) (fun j hj => hT _ (by clear k7 k8 k9; omega))
end CG
section LA
variable {E : zE} {p0 : cP} {g0 : zH} {s0 : cT} {t0 : twS} {nb k m ps z kd : Nat} {p : cP} {s : cT} {g : zH} {t : twS} {c7 c8 c9 np nf no cnt : Nat} {nt na : Nat → Nat} {nm : Nat → List Nat}
theorem y_fin {x : Int32} {t2 : twS} (hx : x = 0 ∨ x = 1) (h : t_X6_readEnd E t = some (x, t2)) : (bnd2 (t_X6_readEnd E t) fun x5 s3_ => (zgd .boolean x5).bind fun _ => some (x5, s3_)) = some (x, t2) := by
  rw [h, b2_some]
  rcases hx with rfl | rfl
  · rw [zgd0, b1_some]
  · rw [zgd1, b1_some]
theorem i32_t1 {n : Nat} (h : n < 1000000) : (Int32.ofNat n + (1 : Int32)).toInt = n + 1 := by
  rw [i32_s, i32_toInt (by omega)]
  omega
theorem L_area (hE : 20000 ≤ E.1) (h : Ld p0 g0 s0 t0 nb k m ps z kd p s g t) (hM : Mk nb z c7 c8 c9 np nf no cnt nt na nm s (rv0 p g) (dr t)) (hr : rm g0 20000 220000) (hq : bq nb (k + 40) (m + 400) (z + 40)) (hnb : nb + 10000 ≤ XT) (hL : Lt E (rv0 p0 g0)) (hsv : svw (rv0 p0 g0) (rv0 p g)) (hkd : kd ≠ 0) : BoO E p0 g0 s0 t0 nb cnt k m ps z (p.1 (nb + 400)) (f_X7_area E (p.1 (nb + 400)) (cH p s g)) (t_X6_readArea E t) := by
  obtain ⟨q1, q2, q3⟩ := hq
  have zb := h.2.2.2.2.1
  have n400 := h.2.2.2.2.2.2.2
  have hc := c_cko (g := g) h.1.1.1 (Ld_kd h).1
  unfold f_X7_area f_X7_area_b0 t_X6_readArea t_X6_readArea_b0 t_X6_readArea_b25 f_X7_named f_X7_named_b0
  obtain ⟨p1, s1, g1, t1, ps1, kd1, a1, a2, h1, a4, a5, K1, -⟩ := L_s0 hE h hr ⟨by omega, by omega, by omega⟩ hnb hkd
  have M1 := Mk_Kq hM zb.1 K1 (show z ≤ z + 2 by omega)
  have ck1 := c_cko (g := g1) h1.1.1.1 (Ld_kd h1).1
  have r1 : gR (cH p1 s1 g1) (p1.1 (nb + 400)) 6 1 = some (p1.1 (nb + 202)) := c_gR h1.1.1.1 (Ld_kd h1).1 rfl h1.2.2.2.2.2.1
  rw [hc, b1_some, a1, b2_some, a2, b2_some, ← K1.2.1, ck1, b1_some, r1, b1_some, b1_some]
  rcases L_name (blk := 3) hE h1 hr ⟨by omega, by omega, by omega⟩ hnb hL (by decide) (M1.2.2.1.1) (svw_tr hsv K1.2.2.1) with ⟨i, p2, s2, g2, t2, ps2, kd2, hi, b1, b2, h2, b4, b5, K2⟩ | ⟨a9, H, t9, b1, b2, b3⟩
  rotate_left
  · refine Or.inr ⟨a9, H, t9, ?_, ?_, b3⟩
    · rw [b1, b2_some, el_r, b2_some, el_r]
    · rw [show (3 : Int32) = Int32.ofNat 3 from rfl, b2, b2_some, if_pos rfl]
  have hi8 : i < 8 := by have := M1.2.2.1.1.1.2.2.2; omega
  have ck2 := c_cko (g := g2) h2.1.1.1 (Ld_kd h2).1
  rw [b1, b2_some, el_l, b2_some, el_l, show (3 : Int32) = Int32.ofNat 3 from rfl, b2, b2_some, if_neg (i32_neg1 (by omega)), ← K2.2.1, ck2, b1_some]
  rcases L_num (E := E) hE h2 hr ⟨by omega, by omega, by omega⟩ hnb 0 29 with ⟨x1, p3, s3, g3, t3, ps3, kd3, x11, x12, x13, c1, c2, h3, c4, c5, K3, c6⟩ | ⟨a9, H, t9, c1, c2, c3⟩
  rotate_left
  · exact Or.inr ⟨a9, H, t9, by rw [c1, b2_some, el_r], by rw [c2, b2_some, if_pos rfl], c3⟩
  have ck3 := c_cko (g := g3) h3.1.1.1 (Ld_kd h3).1
  rw [c1, b2_some, el_l, c2, b2_some, if_neg (by decide), ← K3.2.1, ck3, b1_some]
  rcases L_num (E := E) hE h3 hr ⟨by omega, by omega, by omega⟩ hnb 0 29 with ⟨y1, p4, s4, g4, t4, ps4, kd4, y11, y12, y13, d1, d2, h4, d4, d5, K4, d6⟩ | ⟨a9, H, t9, c1, c2, c3⟩
  rotate_left
  · exact Or.inr ⟨a9, H, t9, by rw [c1, b2_some, el_r], by rw [c2, b2_some, if_pos rfl], c3⟩
  have ck4 := c_cko (g := g4) h4.1.1.1 (Ld_kd h4).1
  rw [d1, b2_some, el_l, d2, b2_some, if_neg (by decide), ← K4.2.1, ck4, b1_some, c6]
  rcases L_num (E := E) hE h4 hr ⟨by omega, by omega, by omega⟩ hnb (Int32.ofNat x1 + 1) 30 with ⟨x2, p5, s5, g5, t5, ps5, kd5, x21, x22, x23, e1, e2, h5, e4, e5, K5, e6⟩ | ⟨a9, H, t9, c1, c2, c3⟩
  rotate_left
  · exact Or.inr ⟨a9, H, t9, by rw [c1, b2_some, el_r], by rw [c2, b2_some, if_pos rfl], c3⟩
  rw [i32_t1 x11] at x22
  have t29 : (29 : Int32).toInt = 29 := by decide
  have t30 : (30 : Int32).toInt = 30 := by decide
  rw [t29] at x13 y13
  rw [t30] at x23
  rw [e1, b2_some, el_l, e2, b2_some, if_neg (by decide)]
  -- the part of the grid
  obtain ⟨p6, s6, g6, f1, h6, K6, w1, w2, w3, w4, w5⟩ := Ld_new h5 hr ⟨by omega, by omega, by omega⟩ hnb 12 4 (fs := [.int 0, .int 0, .int 0, .int 0]) (by decide) rfl
  have ck6 := c_cko (g := g6) h6.1.1.1 (Ld_kd h6).1
  rw [f1, b2_some, ← K5.2.1, ← K6.2.1, ck6, b1_some, d6]
  rcases L_fig (E := E) h6 hr ⟨by omega, by omega, by omega⟩ hnb (Int32.ofNat y1 + 1) 30 with ⟨y2, kd2', y21, y22, y23, yv, g1', g2'⟩ | ⟨a9, H, t9, c1, c2, c3⟩
  rotate_left
  · exact Or.inr ⟨a9, H, t9, by rw [c1, b2_some, el_r], by rw [c2, b2_some, if_pos rfl], c3⟩
  rw [i32_t1 y11] at y22
  rw [t30] at y23
  rw [g1', b2_some, el_l, g2']
  obtain ⟨Z0, hZ0⟩ : ∃ Z0, Z0 = z + 2 + 2 + 2 + 2 + 2 := ⟨_, rfl⟩
  rw [← hZ0] at h6 K6 w1 w2 w3 w4 w5
  obtain ⟨i1, T1⟩ := Tr_I (Tr_0 h6.1.1) Z0 12 0 (a := g5.2.1) (v := Int32.ofNat x1) w2 rfl w1
  obtain ⟨i2, T2⟩ := Tr_I T1 Z0 12 1 (a := g5.2.1) (v := Int32.ofNat y1) w2 rfl w1
  obtain ⟨i3, T3⟩ := Tr_I T2 Z0 12 2 (a := g5.2.1) (v := Int32.ofNat x2) w2 rfl w1
  obtain ⟨i4, T4⟩ := Tr_I T3 Z0 12 3 (a := g5.2.1) (v := Int32.ofNat y2) w2 rfl w1
  have oz : ∀ d, d ≠ Z0 → (uI (uI (uI (uI s6 Z0 0 (Int32.ofNat x1)) Z0 1 (Int32.ofNat y1)) Z0 2 (Int32.ofNat x2)) Z0 3 (Int32.ofNat y2)).2.1 d = s6.2.1 d := fun d hd => by rw [uI_row _ hd, uI_row _ hd, uI_row _ hd, uI_row _ hd]
  have v0 : (uI (uI (uI (uI s6 Z0 0 (Int32.ofNat x1)) Z0 1 (Int32.ofNat y1)) Z0 2 (Int32.ofNat x2)) Z0 3 (Int32.ofNat y2)).2.1 Z0 0 = Int32.ofNat x1 := by rw [uI_ne _ _ (Or.inr (by decide)), uI_ne _ _ (Or.inr (by decide)), uI_ne _ _ (Or.inr (by decide)), uI_s]
  have v1 : (uI (uI (uI (uI s6 Z0 0 (Int32.ofNat x1)) Z0 1 (Int32.ofNat y1)) Z0 2 (Int32.ofNat x2)) Z0 3 (Int32.ofNat y2)).2.1 Z0 1 = Int32.ofNat y1 := by rw [uI_ne _ _ (Or.inr (by decide)), uI_ne _ _ (Or.inr (by decide)), uI_s]
  have v2 : (uI (uI (uI (uI s6 Z0 0 (Int32.ofNat x1)) Z0 1 (Int32.ofNat y1)) Z0 2 (Int32.ofNat x2)) Z0 3 (Int32.ofNat y2)).2.1 Z0 2 = Int32.ofNat x2 := by rw [uI_ne _ _ (Or.inr (by decide)), uI_s]
  have v3 : (uI (uI (uI (uI s6 Z0 0 (Int32.ofNat x1)) Z0 1 (Int32.ofNat y1)) Z0 2 (Int32.ofNat x2)) Z0 3 (Int32.ofNat y2)).2.1 Z0 3 = Int32.ofNat y2 := uI_s _ _ _ _
  generalize hs7 : uI (uI (uI (uI s6 Z0 0 (Int32.ofNat x1)) Z0 1 (Int32.ofNat y1)) Z0 2 (Int32.ofNat x2)) Z0 3 (Int32.ofNat y2) = s7 at i4 T4 oz v0 v1 v2 v3
  have S7 : s7.1 = s6.1 ∧ s7.2.2 = s6.2.2 := by rw [← hs7]; exact ⟨rfl, rfl⟩
  have h7 := Ld_up h6 (Tr_w T4 (Nat.zero_le 0) (Nat.zero_le 0)) (z1 := Z0 + 1) (t1 := t5) (fun d hd => ⟨rfl, by rw [S7.1], oz d (by omega), by rw [S7.2], by rw [S7.2]⟩) (Nat.le_refl _) (by omega) (fun d d1 d2 => by rw [S7.1]) (up_rfl t5)
  have K7 : Kq nb Z0 p6 s6 g6 t5 p6 s7 g6 t5 := ⟨fun d _ d2 => ⟨rfl, by rw [S7.1], oz d (by omega), by rw [S7.2], by rw [S7.2]⟩, rfl, svw_rfl _, rfl, rfl, rfl⟩
  have K27 := Kq_tr K1 (Kq_tr K2 (Kq_tr K3 (Kq_tr K4 (Kq_tr K5 (Kq_tr K6 K7 (Nat.le_refl _)) (by omega)) (by omega)) (by omega)) (by omega)) (by omega)
  have M7 := Mk_Kq hM zb.1 K27 (show z ≤ Z0 + 1 by omega)
  obtain ⟨p8, s8, g8, t8, ps8, kd8, j1, j2, h8, j4, j5, K8, j7⟩ := L_s hE h7 hr ⟨by omega, by omega, by omega⟩ hnb (by omega) (Int32.ofNat y2)
  have M8 := Mk_Kq M7 (by omega) K8 (show Z0 + 1 ≤ Z0 + 1 + 2 by omega)
  have xin : f_X13_init E g5.2.1 (Int32.ofNat x1) (Int32.ofNat y1) (Int32.ofNat x2) (Int32.ofNat y2) (cH p6 s6 g6) = some ((), cH p6 s7 g6) := by
    unfold f_X13_init f_X13_init_b0 f_J17_init_X13 f_J17_init_X13_b0
    rw [b2_some, i1, b1_some, i2, b1_some, i3, b1_some, i4, b1_some]
  have grw : ∀ {s9 : cT} {v9 : Nat → Option zC} {T9 : Nat → Int64} {z9 : Nat}, s9.1 (nb + 400) = (1, 6) → rdF s9 nb → Mk nb z9 c7 c8 c9 np nf no cnt nt na nm s9 v9 T9 → grW s9 nb := fun q r hM9 => by
    have b := hM9.1.1.1
    have gr := b.2.2.2.2.2.2.2.2.2.2.2.1
    exact ⟨q, r.2.1, b.1, b.2.2.2.1, gr.1, gr.2.1, gr.2.2.2.2.1⟩
  have W7 := grw (Ld_kd h7).1 h7.2.2.2.2.2 M7
  have W8 := grw (Ld_kd h8).1 h8.2.2.2.2.2 M8
  have ck7 := c_cko (g := g6) h7.1.1.1 (Ld_kd h7).1
  have t85 : t8.1 = t5.1 := K8.2.2.2.1
  have cell : ∀ c, c < 900 → t8.1 (15412 + c) = (s7.2.1 (nb + 16) c).toInt64 := fun c hc9 => by
    have := M7.1.2.1.2.2.2.1 c hc9
    rw [← this, t85]
    show t5.1 (15412 + c) = t5.1 (15162 + (250 + c))
    rw [show 15162 + (250 + c) = 15412 + c by omega]
  have x30 : x1 < x2 := by omega
  have y30 : y1 < y2 := by omega
  have x2' : x2 ≤ 30 := by omega
  have y2' : y2 ≤ 30 := by omega
  obtain ⟨FA, FB⟩ := fr_l (E := E) (g := g6) (t := t8) (i := i) h7.1.1.1 W7 (by rw [S7.1]; exact w2) v0 v1 v2 v3 x30 x2' y30 y2' cell 900 0 (E.1 - 901) (E.1 - 901) (by omega)
  rw [show E.1 - 901 + 900 + 1 = E.1 by omega] at FA FB
  have ckx : cko (cH p6 s7 g6) (p6.1 (nb + 400)) 6 = some () := ck7
  have z0e : (0 : Int32) = Int32.ofNat 0 := rfl
  have compA : f_X7_isFreeFor E (p6.1 (nb + 400)) (Int32.ofNat i) g5.2.1 (cH p6 s7 g6) = some (bi (∀ c, 0 ≤ c → c < 900 → wi x1 y1 x2 y2 c → s7.2.1 (nb + 16) c = -1 ∨ s7.2.1 (nb + 16) c = Int32.ofNat i), cH p6 s7 g6) := by
    unfold f_X7_isFreeFor f_X7_isFreeFor_b0
    rw [← w1, z0e]
    exact FA
  have twinB : t_X6_hasOther E (Int32.ofNat i) (Int32.ofNat x1) (Int32.ofNat y1) (Int32.ofNat x2) (Int32.ofNat y2) t8 = some (bi (¬ ∀ c, 0 ≤ c → c < 900 → wi x1 y1 x2 y2 c → s7.2.1 (nb + 16) c = -1 ∨ s7.2.1 (nb + 16) c = Int32.ofNat i), t8) := by
    unfold t_X6_hasOther t_X6_hasOther_b0
    rw [z0e]
    exact FB
  rw [xin, b2_some, ckx, b1_some, compA, b2_some, ckx, b1_some, j2, b2_some, b2_some, if_neg (by decide), e6, j7, twinB, b2_some]
  by_cases hP : ∀ c, 0 ≤ c → c < 900 → wi x1 y1 x2 y2 c → s7.2.1 (nb + 16) c = -1 ∨ s7.2.1 (nb + 16) c = Int32.ofNat i
  · rw [bi_t hP, bi_f (fun q => q hP), req_t, b2_some, el_l, ckx, b1_some, j1, b2_some, if_pos rfl, ← K8.2.1]
    have kz := K8.1 Z0 (by omega) (by omega)
    obtain ⟨s9, u1, u2, u3, u4, u5⟩ := st_l (E := E) (g := g8) (i := i) h8.1.1.1 W8 (by rw [kz.2.1, S7.1]; exact w2) (show Z0 ≠ nb + 16 by omega) (by rw [kz.2.2.1]; exact v0) (by rw [kz.2.2.1]; exact v1) (by rw [kz.2.2.1]; exact v2) (by rw [kz.2.2.1]; exact v3) x30 x2' y30 y2' hi8 900 0 (E.1 - 901) (by omega) s8 rfl rfl (fun _ _ => rfl)
    obtain ⟨f2, r1, r2, r3⟩ := yt_l (E := E) (t := t8) (i := i) j7 x30 x2' y30 y2' 900 0 (E.1 - 901) (by omega) t8.1
    rw [show E.1 - 901 + 900 + 1 = E.1 by omega] at u1 r1
    have pz : p8.1 Z0 = g5.2.1 := kz.1.trans w1
    rw [pz] at u1
    have T9 : Tr p8 g8 p8 s9 g8 0 0 := ⟨Kp_t h8.1.1 u2 (by rw [u3]), fun b _ hn => ⟨hn, rfl⟩, Nat.le_refl _, Nat.le_refl _, Nat.le_refl _⟩
    have up9 : up t8 (uSt t8 f2) := ⟨fun y hy => r3 y (by omega), fun _ _ => rfl, fun _ _ _ => rfl, rfl⟩
    have h9 := Ld_up h8 T9 (z1 := Z0 + 1 + 2) (t1 := uSt t8 f2) (fun d hd => ⟨rfl, by rw [u2], u4 d (by omega), by rw [u3], by rw [u3]⟩) (Nat.le_refl _) (by omega) (fun d d1 d2 => by rw [u2]) up9
    have M9 := Mk_cells (s1 := s9) (T1 := dr (uSt t8 f2)) M8 (by omega) hi u2 u3 u4 (fun c hc9 => by
      have e : ∀ f : Nat → Int64, (fun y => f (15162 + y)) (250 + c) = f (15412 + c) := fun f => by
        show f (15162 + (250 + c)) = _
        rw [show 15162 + (250 + c) = 15412 + c by omega]
      by_cases w : wi x1 y1 x2 y2 c
      · exact Or.inl ⟨(u5 c).1 ⟨Nat.zero_le _, hc9, w⟩, (e f2).trans ((r2 c).1 ⟨Nat.zero_le _, hc9, w⟩)⟩
      · exact Or.inr ⟨(u5 c).2 (fun q => w q.2.2), (e f2).trans (((r2 c).2 (fun q => w q.2.2)).trans (e t8.1).symm)⟩) (fun y hy => by
      show f2 (15162 + y) = t8.1 (15162 + y)
      by_cases w : 15162 + y < 15412
      · exact r3 _ w
      · rw [show 15162 + y = 15412 + (y - 250) by omega]
        exact (r2 (y - 250)).2 (by omega))
    refine Or.inl ⟨p8, s9, g8, uSt t8 f2, _, _, ps8, _, kd8, _, _, _, _, _, _, _, _, _, ?_, fun x t10 hx e3 => ?_, h9, M9, by omega, by omega, by omega, by omega, by omega, rfl⟩
    · rw [z0e]; exact u1
    · rw [z0e]
      refine Eq.trans r1 (y_fin hx e3)
  · rw [bi_f hP, bi_t hP, if_neg (show ¬ (1 : Int32) = 0 by decide)]
    obtain ⟨a9, H, t9, o1, o2, o3, -⟩ := L_fail (E := E) h7 hr (by omega) (by omega) hnb (t2 := uSc t8 14 (tSc t5 14)) (twF_u h8.2.2.1 (by decide) _) (by rw [tSc_u, if_pos rfl]; exact (Ld_kd h7).2.2.2.2.1) (c := 5) (by decide)
    refine Or.inr ⟨a9, H, t9, ?_, ?_, o3⟩
    · rw [o1, b2_some, el_r]
    · rw [o2, b2_some, zgd0, b1_some]
end LA
