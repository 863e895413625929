/-! franchisee, as a whole -/
set_option maxRecDepth 100000
section CG
variable {nb z c7 c8 c9 np nf no cnt : Nat} {nt na : Nat → Nat} {nm : Nat → List Nat} {s s1 : cT} {v v1 : Nat → Option zC} {T T1 : Nat → Int64}
theorem Mk_fra (h : Mk nb z c7 c8 c9 np nf no cnt nt na nm s v T) (hz : nb + 500 ≤ z) {pl wo aw : Nat} {d : List Nat} (hpl : pl < np) (hwo : wo < 1000) (hnf : nf < 8) (l1 : lsc s1 (nb + 11) (nb + 12) (nf + 1) (fun i => nb + 130 + i)) (l2 : lsc s1 (nb + 205) (nb + 206) (nf + 1) (fun i => XT + if i = nf then aw else na i)) (iF : iFr s1 nb nf) (x3 : s1.2.1 (nb + 130 + nf) 3 = Int32.ofNat pl) (x4 : s1.2.1 (nb + 130 + nf) 4 = Int32.ofNat wo) (x5 : s1.2.1 (nb + 130 + nf) 5 = 0) (x6 : s1.2.1 (nb + 130 + nf) 6 = 0) (x7 : s1.2.1 (nb + 130 + nf) 7 = 0) (xL : ∀ k, s1.2.2.1 (nb + 130 + nf) k = 0) (yI : ∀ k, s1.2.1 (nb + 140 + nf) k = 0) (yL : ∀ k, s1.2.2.1 (nb + 140 + nf) k = 0) (hf : ∀ e, e ≠ nb + 130 + nf → e ≠ nb + 140 + nf → e ≠ nb + 150 + nf → e ≠ nb + 160 + nf → e ≠ nb + 11 → e ≠ nb + 12 → e ≠ nb + 205 → e ≠ nb + 206 → s1.1 e = s.1 e ∧ s1.2.1 e = s.2.1 e ∧ s1.2.2.1 e = s.2.2.1 e ∧ s1.2.2.2 e = s.2.2.2 e) (hv : svw v v1) (hd : wrd d) (hw : StrH v1 aw (chd d)) (t2 : T1 2 = Int64.ofNat (nf + 1)) (u0 : T1 (58 + 16 * nf + 0) = Int64.ofNat (wpk d)) (u1 : T1 (58 + 16 * nf + 1) = Int64.ofNat pl) (u2 : T1 (58 + 16 * nf + 2) = Int64.ofNat wo) (hT : ∀ y, y ≠ 2 → y < 58 + 16 * nf ∨ 58 + 16 * nf + 3 ≤ y → T1 y = T y) : Mk nb z c7 c8 c9 np (nf + 1) no cnt nt (fun i => if i = nf then aw else na i) (fun i => if i = nf then d else nm i) s1 v1 T1 := by
  obtain ⟨hB, hR, hN, hcn, k7, k8, k9, k10⟩ := h
  obtain ⟨⟨a1, a2, a3⟩, hRB, hV, ⟨z1, z2, z3⟩, f1, f2⟩ := hB
  have h16 := a1.2.2.2.2.2.2.2.2.1
  have n7 : c7 ≠ nb + 202 ∧ (c7 = nb + 207 ∨ nb + 500 ≤ c7) := by clear k8 k9; omega
  have n8 : c8 ≠ nb + 202 ∧ (c8 = nb + 208 ∨ nb + 500 ≤ c8) := by clear k7 k9; omega
  have n9 : c9 ≠ nb + 202 ∧ (c9 = nb + 209 ∨ nb + 500 ≤ c9) := by clear k7 k8; omega
  have l13 := hf (nb + 13) (by omega) (by omega) (by omega) (by omega) (by omega) (by omega) (by omega) (by omega)
  have l14 := hf (nb + 14) (by omega) (by omega) (by omega) (by omega) (by omega) (by omega) (by omega) (by omega)
  have zr : ∀ x, 3 ≤ x → x < 16 → T1 (58 + 16 * nf + x) = 0 := fun x x1 x2 => by
    rw [hT _ (by omega) (by omega)]
    exact z1 nf (Nat.le_refl _) hnf x x1 x2
  refine ⟨⟨⟨iBk_cg a1 (fun d hd => ?_) (by omega) h16 l1.1 (lst_cg a1.2.2.2.2.2.2.2.2.2.2.1 l13.1 l13.2.1 l13.2.2.2 l14.1 l14.2.2.2) (fun j hj => ?_) (fun j hj => ?_), l1, lsc_cg a3 ⟨l13.1, l13.2.1, l13.2.2.2⟩ ⟨l14.1, l14.2.2.2⟩⟩, ?_, ?_, ⟨fun j i1 i2 x x1 x2 => ?_, fun f hf g hg => ?_, fun j hj => ?_⟩, fun j i1 i2 => ?_, fun j i1 i2 => ?_⟩, ?_, ?_, ?_, k7, k8, k9, k10⟩
  · clear k7 k8 k9
    have k := hf d (by omega) (by omega) (by omega) (by omega) (by omega) (by omega) (by omega) (by omega); exact ⟨k.1, k.2.2.2⟩
  · clear k7 k8 k9
    by_cases w : j = nf
    · rw [w]; exact iF
    · exact iFr_cg (a1.2.2.2.2.2.2.2.2.2.2.2.2.1 j (by omega)) (fun d hd => by have k := hf d (by omega) (by omega) (by omega) (by omega) (by omega) (by omega) (by omega) (by omega); exact ⟨k.1, k.2.2.2⟩)
  · clear k7 k8 k9
    rw [(hf _ (by omega) (by omega) (by omega) (by omega) (by omega) (by omega) (by omega) (by omega)).1]; exact a1.2.2.2.2.2.2.2.2.2.2.2.2.2.1 j hj
  · clear k7 k8 k9
    obtain ⟨⟨b1, b2, b3, b4⟩, hF, hO, hC, hSp, hD, hRe, hIv⟩ := hRB
    refine ⟨⟨(hT 0 (by omega) (by omega)).trans b1, by rw [(hf (nb + 10) (by omega) (by omega) (by omega) (by omega) (by omega) (by omega) (by omega) (by omega)).2.1]; exact b2, t2, (hT 3 (by omega) (by omega)).trans b4⟩, fun j hj => ?_, fun k hk => ouR_cg (hO k hk) ?_ (fun x hx => hT _ (by omega) (by omega)), fun c c1 => ?_, fun k hk => ?_, fun f hf9 g hg => ?_, fun f hf m hm => absurd hm (Nat.not_lt_zero _), fun f hf m hm => absurd hm (Nat.not_lt_zero _)⟩
    · by_cases w : j = nf
      · rw [w]
        refine ⟨?_, ?_, ?_, ?_, ?_, ?_, ?_, ?_, ?_, ?_, ?_, ?_, ?_, ?_, ?_⟩
        · rw [u1, x3, i32_64 (by have := hV.1.2.2.2; omega)]
        · rw [u2, x4, i32_64 (by omega)]
        · rw [zr 3 (by decide) (by decide), x5]; rfl
        · rw [zr 4 (by decide) (by decide), xL]
        · rw [zr 5 (by decide) (by decide), x6]; rfl
        · rw [zr 6 (by decide) (by decide), x7]; rfl
        · rw [zr 7 (by decide) (by decide), xL]
        · rw [zr 8 (by decide) (by decide), xL]
        · rw [zr 9 (by decide) (by decide), yI]; rfl
        · rw [zr 10 (by decide) (by decide), yI]; rfl
        · rw [zr 11 (by decide) (by decide), yL]
        · rw [zr 12 (by decide) (by decide), yI]; rfl
        · rw [zr 13 (by decide) (by decide), yI]; rfl
        · rw [zr 14 (by decide) (by decide), yI]; rfl
        · rw [zr 15 (by decide) (by decide), yI]; rfl
      · refine frR_cg (hF j (by omega)) ?_ ?_ (fun x hx => hT _ (by omega) (by omega))
        · have k := hf (nb + 130 + j) (by omega) (by omega) (by omega) (by omega) (by omega) (by omega) (by omega) (by omega); exact ⟨k.2.1, k.2.2.1⟩
        · have k := hf (nb + 140 + j) (by omega) (by omega) (by omega) (by omega) (by omega) (by omega) (by omega) (by omega); exact ⟨k.2.1, k.2.2.1⟩
    · have kk := hf (nb + 170 + k) (by omega) (by omega) (by omega) (by omega) (by omega) (by omega) (by omega) (by omega); exact ⟨kk.2.1, kk.2.2.1⟩
    · rw [(hf (nb + 16) (by omega) (by omega) (by omega) (by omega) (by omega) (by omega) (by omega) (by omega)).2.1]; exact (hT _ (by omega) (by omega)).trans (hC c c1)
    · rw [(hf (nb + 20) (by omega) (by omega) (by omega) (by omega) (by omega) (by omega) (by omega) (by omega)).2.2.1]; exact (hT _ (by omega) (by omega)).trans (hSp k hk)
    · rw [(hf (nb + 190 + f) (by omega) (by omega) (by omega) (by omega) (by omega) (by omega) (by omega) (by omega)).2.2.1]; exact (hT _ (by omega) (by omega)).trans (hD f hf9 g hg)
  · clear k7 k8 k9
    obtain ⟨⟨b1, b2, b3, b4⟩, hF, hO, hC, hRr, hD⟩ := hV
    refine ⟨⟨b1, by omega, b3, b4⟩, fun j hj => ?_, fun k hk => ?_, fun c c1 => ?_, fun f hf m hm => absurd hm (Nat.not_lt_zero _), fun f hf g hg hz => by rw [hT _ (by omega) (by omega)]; exact z2 f hf g hg⟩
    · by_cases w : j = nf
      · rw [w]
        refine ⟨?_, ?_, ?_, ?_, ?_, ?_, ?_, ?_, ?_, ?_, ?_, ?_, fun q => ?_⟩
        · rw [u1]
          unfold btw
          rw [Int64.toInt_ofNat_of_lt (by omega)]
          omega
        · rw [zr 3 (by decide) (by decide)]; exact ⟨by decide, by decide⟩
        · rw [zr 4 (by decide) (by decide)]; exact ⟨by decide, by decide⟩
        · rw [zr 5 (by decide) (by decide)]; exact ⟨by decide, by decide⟩
        · rw [zr 6 (by decide) (by decide)]; exact ⟨by decide, by decide⟩
        · rw [zr 7 (by decide) (by decide)]; exact ⟨by decide, by decide⟩
        · rw [zr 9 (by decide) (by decide)]; exact ⟨by decide, by decide⟩
        · rw [zr 11 (by decide) (by decide)]; exact ⟨by decide, by decide⟩
        · rw [zr 12 (by decide) (by decide)]; exact ⟨by decide, by decide⟩
        · rw [zr 13 (by decide) (by decide)]; exact ⟨by decide, by decide⟩
        · rw [zr 14 (by decide) (by decide)]; exact ⟨by decide, by decide⟩
        · rw [zr 15 (by decide) (by decide)]; exact ⟨by decide, by decide⟩
        · rw [zr 9 (by decide) (by decide)] at q; exact absurd q (by decide)
      · exact frI_cg (hF j (by omega)) (fun x hx => hT _ (by omega) (by omega))
    · rw [hT _ (by omega) (by omega), hT _ (by omega) (by omega)]
      have k := hO k hk
      exact ⟨⟨k.1.1, by have := k.1.2; omega⟩, k.2⟩
    · rw [hT _ (by omega) (by omega)]
      have k := hC c c1
      exact ⟨k.1, by have := k.2; omega⟩
  · clear k7 k8 k9
    rw [hT _ (by omega) (by omega)]; exact z1 j (by omega) i2 x x1 x2
  · clear k7 k8 k9
    rw [hT _ (by omega) (by omega)]; exact z2 f hf g hg
  · clear k7 k8 k9
    rw [(hf _ (by omega) (by omega) (by omega) (by omega) (by omega) (by omega) (by omega) (by omega)).2.1]; exact z3 j hj
  · clear k7 k8 k9
    have k1 := hf (nb + 130 + j) (by omega) (by omega) (by omega) (by omega) (by omega) (by omega) (by omega) (by omega)
    have k2 := hf (nb + 140 + j) (by omega) (by omega) (by omega) (by omega) (by omega) (by omega) (by omega) (by omega)
    have k3 := hf (nb + 150 + j) (by omega) (by omega) (by omega) (by omega) (by omega) (by omega) (by omega) (by omega)
    have k4 := hf (nb + 160 + j) (by omega) (by omega) (by omega) (by omega) (by omega) (by omega) (by omega) (by omega)
    rw [k1.1, k2.1, k3.1, k4.1]; exact f1 j (by omega) i2
  · clear k7 k8 k9
    rw [(hf _ (by omega) (by omega) (by omega) (by omega) (by omega) (by omega) (by omega) (by omega)).1]; exact f2 j i1 i2
  · clear k7 k8 k9
    have s2 := hf (nb + 202) (by omega) (by omega) (by omega) (by omega) (by omega) (by omega) (by omega) (by omega)
    exact MkR_cg hR (fun e he => by have k := hf e (by omega) (by omega) (by omega) (by omega) (by omega) (by omega) (by omega) (by omega); exact ⟨k.1, fun _ => k.2.1, k.2.2⟩) (congrFun s2.2.1 7) (congrFun s2.2.1 8) ⟨n7.1, n8.1, n9.1⟩ (fun y y1 y2 y3 _ => hT y y3 (by omega))
  · clear k7 k8 k9
    obtain ⟨⟨⟨m1, m2, m3, m4⟩, m5, m6⟩, m7⟩ := hN
    have s2 := hf (nb + 202) (by omega) (by omega) (by omega) (by omega) (by omega) (by omega) (by omega) (by omega)
    refine ⟨⟨⟨s2.1.trans m1, (congrFun s2.2.2.2 1).trans m2, l2.1, by omega⟩, fun j hj => ?_, t2⟩, l2⟩
    by_cases w : j = nf
    · have en : (fun i => if i = nf then d else nm i) j = d := if_pos w
      have ea : (fun i => if i = nf then aw else na i) j = aw := if_pos w
      rw [en, ea, w]
      exact ⟨hd, hw, u0⟩
    · have en : (fun i => if i = nf then d else nm i) j = nm j := if_neg w
      have ea : (fun i => if i = nf then aw else na i) j = na j := if_neg w
      rw [en, ea, hT _ (by omega) (by omega)]
      have k := m5 j (by omega)
      exact ⟨k.1, hv.2 _ _ k.2.1, k.2.2⟩
  · clear k7 k8 k9
    rw [(hf (nb + 202) (by omega) (by omega) (by omega) (by omega) (by omega) (by omega) (by omega) (by omega)).2.1]; exact hcn
end CG
section LF
variable {E : zE} {p0 : cP} {g0 : zH} {s0 : cT} {t0 : twS} {nb k m ps z kd : Nat} {p : cP} {s : cT} {g : zH} {t : twS} {c7 c8 c9 np nf no cnt : Nat} {nt na : Nat → Nat} {nm : Nat → List Nat}
theorem L_franchisee (hE : 20000 ≤ E.1) (h : Ld p0 g0 s0 t0 nb k m ps z kd p s g t) (hM : Mk nb z c7 c8 c9 np nf no cnt nt na nm s (rv0 p g) (dr t)) (hr : rm g0 20000 220000) (hq : bq nb (k + 40) (m + 900) (z + 40)) (hnb : nb + 10000 ≤ XT) (hL : Lt E (rv0 p0 g0)) (hsv : svw (rv0 p0 g0) (rv0 p g)) (hkd : kd ≠ 0) : BoO E p0 g0 s0 t0 nb cnt k m ps z (p.1 (nb + 400)) (f_X7_franchisee E (p.1 (nb + 400)) (cH p s g)) (t_X6_readFranchisee E t) := by
  obtain ⟨q1, q2, q3⟩ := hq
  have zb := h.2.2.2.2.1
  have n400 := h.2.2.2.2.2.2.2
  have hp := h.1.1.1
  have hrd := (Ld_kd h).1
  have hc := c_cko (g := g) hp hrd
  have iB := hM.1.1.1
  have hl := iB.2.2.2.2.2.2.2.2.2.1
  have h8 := iB.2.2.2.2.2.2.2.1
  have r2 : gR (cH p s g) (p.1 (nb + 400)) 6 2 = some (p.1 (nb + 10)) := c_gR hp hrd rfl h.2.2.2.2.2.2.1
  have e3 : tdL t 1 (15164 : Int32) = some (Int64.ofNat nf) := (y_d (t := t) (k := 15164) (by decide)).trans (congrArg some hM.1.2.1.1.2.2.1)
  unfold f_X7_franchisee f_X7_franchisee_b0 f_X7_franchisee_b23 f_X7_franchisee_b51 f_X7_franchisee_b52 f_X7_franchisee_b77 t_X6_readFranchisee t_X6_readFranchisee_b0 t_X6_readFranchisee_b41 t_X6_readFranchisee_b137
  rw [r2, b1_some, c_gR hp iB.1 rfl iB.2.1, b1_some, c_cko hp hl.1, b1_some, b_size hp hl E, b2_some, hc, b1_some, e3, b1_some]
  by_cases q : nf = 8
  · obtain ⟨a9, H, t9, o1, o2, o3, -⟩ := L_fail (E := E) h hr (by omega) (by omega) hnb h.2.2.1 (Ld_kd h).2.2.2.2.1 (c := 4) (by decide)
    refine Or.inr ⟨a9, H, t9, ?_, ?_, o3⟩
    · rw [if_pos (by rw [q]; decide), o1, b2_some, el_r]
    · rw [b1_some, if_pos (by rw [q]; rfl), o2, b2_some, zgd0, b1_some]
  rw [if_neg (by rw [show (8 : Int32) = Int32.ofNat 8 from rfl, i32_le (by decide) (by omega)]; omega), b1_some, if_neg (show ¬ Int64.ofNat nf = (8 : Int64) from fun w => q ((i64_eq (b := 8) (by omega) (by decide)).mp w)), req_t, b2_some, el_l, hc, b1_some]
  obtain ⟨p1, s1, g1, t1, ps1, kd1, a1, a2, h1, a4, a5, K1, -⟩ := L_s0 hE h hr ⟨by omega, by omega, by omega⟩ hnb hkd
  have M1 := Mk_Kq hM zb.1 K1 (show z ≤ z + 2 by omega)
  obtain ⟨c1, c2', c3, c4, c5', -, c7'⟩ := Ld_kd h1
  have hp1 := h1.1.1.1
  have ck1 := c_cko (g := g1) hp1 c1
  have g5 : gI (cH p1 s1 g1) (p1.1 (nb + 400)) 6 5 = some (Int32.ofNat kd1) := (c_gI hp1 c1 rfl).trans (congrArg some c2')
  rw [a1, b2_some, a2, b2_some, ← K1.2.1, g5, b1_some, c3]
  by_cases w : kd1 = 1
  rotate_left
  · have e1 : ¬ Int32.ofNat kd1 = (1 : Int32) := fun q => w ((kd_eq c4 (by decide)).mp q)
    obtain ⟨a9, H, t9, o1, o2, o3, -⟩ := L_fail (E := E) h1 hr (by omega) (by omega) hnb h1.2.2.1 c5' (c := 1) (by decide)
    refine Or.inr ⟨a9, H, t9, ?_, ?_, o3⟩
    · rw [if_neg e1, ck1, b1_some, o1, b2_some, el_r]
    · rw [if_neg e1, o2, b2_some, zgd0, b1_some]
  obtain ⟨d, a, la, hd, hv, h7, hS⟩ := c7' w
  have e1 : Int32.ofNat kd1 = (1 : Int32) := by rw [w]; rfl
  have sv1 := svw_tr hsv K1.2.2.1
  obtain ⟨g2, hg, xr⟩ := x_res (E := E) hE hp1 h1.1.1.2.2.1 (Lt_svw sv1 hL) c1 h7 hd hS
  obtain ⟨h2, K2⟩ := Ld_hG h1 hg la
  have K12 := Kq_tr K1 K2 (show z ≤ z + 2 by omega)
  have M2 := Mk_Kq hM zb.1 K12 (show z ≤ z + 2 by omega)
  have st := y_stm (E := E) (c3.trans e1) hv hd
  have ck2 := c_cko (g := g2) hp1 c1
  rw [if_pos e1, if_pos e1, ck1, b1_some, xr, b2_some, st, b2_some]
  by_cases rd : resd d
  · obtain ⟨i, i1, i2, i3⟩ := rd
    have ns : ¬ stI d = -1 := by
      rw [i3, stI_kw i i1 i2]
      exact i32_neg1 (by omega)
    obtain ⟨a9, H, t9, o1, o2, o3, -⟩ := L_fail (E := E) h2 hr (by omega) (by omega) hnb h2.2.2.1 c5' (c := 1) (by decide)
    refine Or.inr ⟨a9, H, t9, ?_, ?_, o3⟩
    · rw [bi_t ⟨i, i1, i2, i3⟩, if_neg (by decide), ck2, b1_some, o1, b2_some, el_r]
    · rw [if_neg ns, o2, b2_some, zgd0, b1_some]
  have hS2 := hg.2.2.2.2 a _ hS
  have r7 : gR (cH p1 s1 g2) (p1.1 (nb + 400)) 6 7 = some a := by
    have := c_gR (g := g2) hp1 c1 rfl h7
    rw [h1.1.1.2.2.1] at this
    exact this
  have r1 : gR (cH p1 s1 g2) (p1.1 (nb + 400)) 6 1 = some (p1.1 (nb + 202)) := c_gR hp1 c1 rfl h2.2.2.2.2.2.1
  have N2 := M2.2.2.1.1
  have ckc := c_cko (g := g2) hp1 N2.1.1
  rw [bi_f rd, if_pos rfl, ck2, b1_some, req_t, b2_some, el_l, r1, b1_some, r7, b1_some, ckc, b1_some, stI_n rd, if_pos rfl, hv]
  rcases L_nmd (blk := 3) hE h2.1.1 (by decide) N2 hd hS2 with ⟨i, i1, i2, i3, i4⟩ | ⟨i1, i3, i4⟩
  · have ni : ¬ Int32.ofNat i = -1 := i32_neg1 (by have := N2.1.2.2.2; omega)
    obtain ⟨a9, H, t9, o1, o2, o3, -⟩ := L_fail (E := E) h2 hr (by omega) (by omega) hnb h2.2.2.1 c5' (c := 3) (by decide)
    refine Or.inr ⟨a9, H, t9, ?_, ?_, o3⟩
    · rw [i3, b2_some, if_neg ni, ck2, b1_some, o1, b2_some, el_r]
    · rw [show (3 : Int32) = Int32.ofNat 3 from rfl, i4, b2_some, if_neg ni, ← show (3 : Int32) = Int32.ofNat 3 from rfl, o2, b2_some, zgd0, b1_some]
  have e3' : ∀ u : twS, u.1 = t1.1 → tdL u 1 (15164 : Int32) = some (Int64.ofNat nf) := fun u hu => (y_d (t := u) (k := 15164) (by decide)).trans (congrArg some (by rw [hu]; exact M2.1.2.1.1.2.2.1))
  have eT : (15220 : Int32) + (16 : Int32) * (Int64.ofNat nf).toInt32 = Int32.ofNat (15220 + 16 * nf) := by
    rw [i64_32, show (15220 : Int32) = Int32.ofNat 15220 from rfl, show (16 : Int32) = Int32.ofNat 16 from rfl, ← Int32.ofNat_mul, ← Int32.ofNat_add]
  have eT0 : Int32.ofNat (15220 + 16 * nf) + (0 : Int32) = Int32.ofNat (15162 + (58 + 16 * nf + 0)) := by
    rw [show (0 : Int32) = Int32.ofNat 0 from rfl, ← Int32.ofNat_add, show 15220 + 16 * nf + 0 = 15162 + (58 + 16 * nf + 0) by omega]
  have eT1 : Int32.ofNat (15220 + 16 * nf) + (1 : Int32) = Int32.ofNat (15162 + (58 + 16 * nf + 1)) := by
    rw [show (1 : Int32) = Int32.ofNat 1 from rfl, ← Int32.ofNat_add, show 15220 + 16 * nf + 1 = 15162 + (58 + 16 * nf + 1) by omega]
  have eT2 : Int32.ofNat (15220 + 16 * nf) + (2 : Int32) = Int32.ofNat (15162 + (58 + 16 * nf + 2)) := by
    rw [show (2 : Int32) = Int32.ofNat 2 from rfl, ← Int32.ofNat_add, show 15220 + 16 * nf + 2 = 15162 + (58 + 16 * nf + 2) by omega]
  sorry
end LF
