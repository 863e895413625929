/-! franchisee, as a whole -/
set_option maxRecDepth 100000
section CG
variable {nb z c7 c8 c9 np nf no cnt : Nat} {nt na : Nat → Nat} {nm : Nat → List Nat} {s s1 : cT} {v v1 : Nat → Option zC} {T T1 : Nat → Int64}
theorem Mk_fra (h : Mk nb z c7 c8 c9 np nf no cnt nt na nm s v T) (hz : nb + 500 ≤ z) {pl wo aw : Nat} {d : List Nat} (hpl : pl < np) (hwo : wo < 1000) (hnf : nf < 8) (l1 : lsc s1 (nb + 11) (nb + 12) (nf + 1) (fun i => nb + 130 + i)) (l2 : lsc s1 (nb + 205) (nb + 206) (nf + 1) (fun i => XT + if i = nf then aw else na i)) (iF : iFr s1 nb nf) (x3 : s1.2.1 (nb + 130 + nf) 3 = Int32.ofNat pl) (x4 : s1.2.1 (nb + 130 + nf) 4 = Int32.ofNat wo) (x5 : s1.2.1 (nb + 130 + nf) 5 = 0) (x6 : s1.2.1 (nb + 130 + nf) 6 = 0) (x7 : s1.2.1 (nb + 130 + nf) 7 = 0) (xL : ∀ k, s1.2.2.1 (nb + 130 + nf) k = 0) (yI : ∀ k, s1.2.1 (nb + 140 + nf) k = 0) (yL : ∀ k, s1.2.2.1 (nb + 140 + nf) k = 0) (hf : ∀ e, e < nb + 400 ∨ nb + 500 ≤ e ∧ e < z → e ≠ nb + 130 + nf → e ≠ nb + 140 + nf → e ≠ nb + 150 + nf → e ≠ nb + 160 + nf → e ≠ nb + 11 → e ≠ nb + 12 → e ≠ nb + 205 → e ≠ nb + 206 → s1.1 e = s.1 e ∧ s1.2.1 e = s.2.1 e ∧ s1.2.2.1 e = s.2.2.1 e ∧ s1.2.2.2 e = s.2.2.2 e) (hv : svw v v1) (hd : wrd d) (hw : StrH v1 aw (chd d)) (t2 : T1 2 = Int64.ofNat (nf + 1)) (u0 : T1 (58 + 16 * nf + 0) = Int64.ofNat (wpk d)) (u1 : T1 (58 + 16 * nf + 1) = Int64.ofNat pl) (u2 : T1 (58 + 16 * nf + 2) = Int64.ofNat wo) (hT : ∀ y, y ≠ 2 → y < 58 + 16 * nf ∨ 58 + 16 * nf + 3 ≤ y → T1 y = T y) : Mk nb z c7 c8 c9 np (nf + 1) no cnt nt (fun i => if i = nf then aw else na i) (fun i => if i = nf then d else nm i) s1 v1 T1 := by
  obtain ⟨hB, hR, hN, hcn, k7, k8, k9, k10⟩ := h
  obtain ⟨⟨a1, a2, a3⟩, hRB, hV, ⟨z1, z2, z3⟩, f1, f2⟩ := hB
  have h16 := a1.2.2.2.2.2.2.2.2.1
  have n7 : c7 ≠ nb + 202 ∧ (c7 = nb + 207 ∨ nb + 500 ≤ c7 ∧ c7 < z) := by clear k8 k9; omega
  have n8 : c8 ≠ nb + 202 ∧ (c8 = nb + 208 ∨ nb + 500 ≤ c8 ∧ c8 < z) := by clear k7 k9; omega
  have n9 : c9 ≠ nb + 202 ∧ (c9 = nb + 209 ∨ nb + 500 ≤ c9 ∧ c9 < z) := by clear k7 k8; omega
  have l13 := hf (nb + 13) (by omega) (by omega) (by omega) (by omega) (by omega) (by omega) (by omega) (by omega) (by omega)
  have l14 := hf (nb + 14) (by omega) (by omega) (by omega) (by omega) (by omega) (by omega) (by omega) (by omega) (by omega)
  have zr : ∀ x, 3 ≤ x → x < 16 → T1 (58 + 16 * nf + x) = 0 := fun x x1 x2 => by
    rw [hT _ (by omega) (by omega)]
    exact z1 nf (Nat.le_refl _) hnf x x1 x2
  refine ⟨⟨⟨iBk_cg a1 (fun d hd => ?_) (by omega) h16 l1.1 (lst_cg a1.2.2.2.2.2.2.2.2.2.2.1 l13.1 l13.2.1 l13.2.2.2 l14.1 l14.2.2.2) (fun j hj => ?_) (fun j hj => ?_), l1, lsc_cg a3 ⟨l13.1, l13.2.1, l13.2.2.2⟩ ⟨l14.1, l14.2.2.2⟩⟩, ?_, ?_, ⟨fun j i1 i2 x x1 x2 => ?_, fun f hf g hg => ?_, fun j hj => ?_⟩, fun j i1 i2 => ?_, fun j i1 i2 => ?_⟩, ?_, ?_, ?_, k7, k8, k9, k10⟩
  · clear k7 k8 k9
    have k := hf d (by omega) (by omega) (by omega) (by omega) (by omega) (by omega) (by omega) (by omega) (by omega); exact ⟨k.1, k.2.2.2⟩
  · clear k7 k8 k9
    by_cases w : j = nf
    · rw [w]; exact iF
    · exact iFr_cg (a1.2.2.2.2.2.2.2.2.2.2.2.2.1 j (by omega)) (fun d hd => by have k := hf d (by omega) (by omega) (by omega) (by omega) (by omega) (by omega) (by omega) (by omega) (by omega); exact ⟨k.1, k.2.2.2⟩)
  · clear k7 k8 k9
    rw [(hf _ (by omega) (by omega) (by omega) (by omega) (by omega) (by omega) (by omega) (by omega) (by omega)).1]; exact a1.2.2.2.2.2.2.2.2.2.2.2.2.2.1 j hj
  · clear k7 k8 k9
    obtain ⟨⟨b1, b2, b3, b4⟩, hF, hO, hC, hSp, hD, hRe, hIv⟩ := hRB
    refine ⟨⟨(hT 0 (by omega) (by omega)).trans b1, by rw [(hf (nb + 10) (by omega) (by omega) (by omega) (by omega) (by omega) (by omega) (by omega) (by omega) (by omega)).2.1]; exact b2, t2, (hT 3 (by omega) (by omega)).trans b4⟩, fun j hj => ?_, fun k hk => ouR_cg (hO k hk) ?_ (fun x hx => hT _ (by omega) (by omega)), fun c c1 => ?_, fun k hk => ?_, fun f hf9 g hg => ?_, fun f hf m hm => absurd hm (Nat.not_lt_zero _), fun f hf m hm => absurd hm (Nat.not_lt_zero _)⟩
    · by_cases w : j = nf
      · rw [w]
        refine ⟨?_, ?_, ?_, ?_, ?_, ?_, ?_, ?_, ?_, ?_, ?_, ?_, ?_, ?_, ?_⟩
        · rw [u1, x3, i32_64 (by have := hV.1.2.2.2; omega)]
        · rw [u2, x4, i32_64 (by omega)]
        · rw [zr 3 (by decide) (by decide), x5]; rfl
        · rw [zr 4 (by decide) (by decide), xL]
        · rw [zr 5 (by decide) (by decide), x6]; rfl
        · rw [zr 6 (by decide) (by decide), x7]; rfl
        · rw [zr 7 (by decide) (by decide), xL]
        · rw [zr 8 (by decide) (by decide), xL]
        · rw [zr 9 (by decide) (by decide), yI]; rfl
        · rw [zr 10 (by decide) (by decide), yI]; rfl
        · rw [zr 11 (by decide) (by decide), yL]
        · rw [zr 12 (by decide) (by decide), yI]; rfl
        · rw [zr 13 (by decide) (by decide), yI]; rfl
        · rw [zr 14 (by decide) (by decide), yI]; rfl
        · rw [zr 15 (by decide) (by decide), yI]; rfl
      · refine frR_cg (hF j (by omega)) ?_ ?_ (fun x hx => hT _ (by omega) (by omega))
        · have k := hf (nb + 130 + j) (by omega) (by omega) (by omega) (by omega) (by omega) (by omega) (by omega) (by omega) (by omega); exact ⟨k.2.1, k.2.2.1⟩
        · have k := hf (nb + 140 + j) (by omega) (by omega) (by omega) (by omega) (by omega) (by omega) (by omega) (by omega) (by omega); exact ⟨k.2.1, k.2.2.1⟩
    · have kk := hf (nb + 170 + k) (by omega) (by omega) (by omega) (by omega) (by omega) (by omega) (by omega) (by omega) (by omega); exact ⟨kk.2.1, kk.2.2.1⟩
    · rw [(hf (nb + 16) (by omega) (by omega) (by omega) (by omega) (by omega) (by omega) (by omega) (by omega) (by omega)).2.1]; exact (hT _ (by omega) (by omega)).trans (hC c c1)
    · rw [(hf (nb + 20) (by omega) (by omega) (by omega) (by omega) (by omega) (by omega) (by omega) (by omega) (by omega)).2.2.1]; exact (hT _ (by omega) (by omega)).trans (hSp k hk)
    · rw [(hf (nb + 190 + f) (by omega) (by omega) (by omega) (by omega) (by omega) (by omega) (by omega) (by omega) (by omega)).2.2.1]; exact (hT _ (by omega) (by omega)).trans (hD f hf9 g hg)
  · clear k7 k8 k9
    obtain ⟨⟨b1, b2, b3, b4⟩, hF, hO, hC, hRr, hD⟩ := hV
    refine ⟨⟨b1, by omega, b3, b4⟩, fun j hj => ?_, fun k hk => ?_, fun c c1 => ?_, fun f hf m hm => absurd hm (Nat.not_lt_zero _), fun f hf g hg hz => by rw [hT _ (by omega) (by omega)]; exact z2 f hf g hg⟩
    · by_cases w : j = nf
      · rw [w]
        refine ⟨?_, ?_, ?_, ?_, ?_, ?_, ?_, ?_, ?_, ?_, ?_, ?_, fun q => ?_⟩
        · rw [u1]
          unfold btw
          rw [Int64.toInt_ofNat_of_lt (by omega)]
          omega
        · rw [zr 3 (by decide) (by decide)]; exact ⟨by decide, by decide⟩
        · rw [zr 4 (by decide) (by decide)]; exact ⟨by decide, by decide⟩
        · rw [zr 5 (by decide) (by decide)]; exact ⟨by decide, by decide⟩
        · rw [zr 6 (by decide) (by decide)]; exact ⟨by decide, by decide⟩
        · rw [zr 7 (by decide) (by decide)]; exact ⟨by decide, by decide⟩
        · rw [zr 9 (by decide) (by decide)]; exact ⟨by decide, by decide⟩
        · rw [zr 11 (by decide) (by decide)]; exact ⟨by decide, by decide⟩
        · rw [zr 12 (by decide) (by decide)]; exact ⟨by decide, by decide⟩
        · rw [zr 13 (by decide) (by decide)]; exact ⟨by decide, by decide⟩
        · rw [zr 14 (by decide) (by decide)]; exact ⟨by decide, by decide⟩
        · rw [zr 15 (by decide) (by decide)]; exact ⟨by decide, by decide⟩
        · rw [zr 9 (by decide) (by decide)] at q; exact absurd q (by decide)
      · exact frI_cg (hF j (by omega)) (fun x hx => hT _ (by omega) (by omega))
    · rw [hT _ (by omega) (by omega), hT _ (by omega) (by omega)]
      have k := hO k hk
      exact ⟨⟨k.1.1, by have := k.1.2; omega⟩, k.2⟩
    · rw [hT _ (by omega) (by omega)]
      have k := hC c c1
      exact ⟨k.1, by have := k.2; omega⟩
  · clear k7 k8 k9
    rw [hT _ (by omega) (by omega)]; exact z1 j (by omega) i2 x x1 x2
  · clear k7 k8 k9
    rw [hT _ (by omega) (by omega)]; exact z2 f hf g hg
  · clear k7 k8 k9
    rw [(hf _ (by omega) (by omega) (by omega) (by omega) (by omega) (by omega) (by omega) (by omega) (by omega)).2.1]; exact z3 j hj
  · clear k7 k8 k9
    have k1 := hf (nb + 130 + j) (by omega) (by omega) (by omega) (by omega) (by omega) (by omega) (by omega) (by omega) (by omega)
    have k2 := hf (nb + 140 + j) (by omega) (by omega) (by omega) (by omega) (by omega) (by omega) (by omega) (by omega) (by omega)
    have k3 := hf (nb + 150 + j) (by omega) (by omega) (by omega) (by omega) (by omega) (by omega) (by omega) (by omega) (by omega)
    have k4 := hf (nb + 160 + j) (by omega) (by omega) (by omega) (by omega) (by omega) (by omega) (by omega) (by omega) (by omega)
    rw [k1.1, k2.1, k3.1, k4.1]; exact f1 j (by omega) i2
  · clear k7 k8 k9
    rw [(hf _ (by omega) (by omega) (by omega) (by omega) (by omega) (by omega) (by omega) (by omega) (by omega)).1]; exact f2 j i1 i2
  · clear k7 k8 k9
    have s2 := hf (nb + 202) (by omega) (by omega) (by omega) (by omega) (by omega) (by omega) (by omega) (by omega) (by omega)
    exact MkR_cg hR (fun e he => by have k := hf e (by omega) (by omega) (by omega) (by omega) (by omega) (by omega) (by omega) (by omega) (by omega); exact ⟨k.1, fun _ => k.2.1, k.2.2⟩) (congrFun s2.2.1 7) (congrFun s2.2.1 8) ⟨n7.1, n8.1, n9.1⟩ (fun y y1 y2 y3 _ => hT y y3 (by omega))
  · clear k7 k8 k9
    obtain ⟨⟨⟨m1, m2, m3, m4⟩, m5, m6⟩, m7⟩ := hN
    have s2 := hf (nb + 202) (by omega) (by omega) (by omega) (by omega) (by omega) (by omega) (by omega) (by omega) (by omega)
    refine ⟨⟨⟨s2.1.trans m1, (congrFun s2.2.2.2 1).trans m2, l2.1, by omega⟩, fun j hj => ?_, t2⟩, l2⟩
    by_cases w : j = nf
    · have en : (fun i => if i = nf then d else nm i) j = d := if_pos w
      have ea : (fun i => if i = nf then aw else na i) j = aw := if_pos w
      rw [en, ea, w]
      exact ⟨hd, hw, u0⟩
    · have en : (fun i => if i = nf then d else nm i) j = nm j := if_neg w
      have ea : (fun i => if i = nf then aw else na i) j = na j := if_neg w
      rw [en, ea, hT _ (by omega) (by omega)]
      have k := m5 j (by omega)
      exact ⟨k.1, hv.2 _ _ k.2.1, k.2.2⟩
  · clear k7 k8 k9
    rw [(hf (nb + 202) (by omega) (by omega) (by omega) (by omega) (by omega) (by omega) (by omega) (by omega) (by omega)).2.1]; exact hcn
end CG
section LF
variable {E : zE} {p0 : cP} {g0 : zH} {s0 : cT} {t0 : twS} {nb k m ps z kd : Nat} {p : cP} {s : cT} {g : zH} {t : twS} {c7 c8 c9 np nf no cnt : Nat} {nt na : Nat → Nat} {nm : Nat → List Nat}
theorem L_franchisee (hE : 20000 ≤ E.1) (h : Ld p0 g0 s0 t0 nb k m ps z kd p s g t) (hM : Mk nb z c7 c8 c9 np nf no cnt nt na nm s (rv0 p g) (dr t)) (hr : rm g0 20000 220000) (hq : bq nb (k + 40) (m + 900) (z + 40)) (hnb : nb + 10000 ≤ XT) (hL : Lt E (rv0 p0 g0)) (hsv : svw (rv0 p0 g0) (rv0 p g)) (hkd : kd ≠ 0) : BoO E p0 g0 s0 t0 nb cnt k m ps z (p.1 (nb + 400)) (f_X7_franchisee E (p.1 (nb + 400)) (cH p s g)) (t_X6_readFranchisee E t) := by
  obtain ⟨q1, q2, q3⟩ := hq
  have zb := h.2.2.2.2.1
  have n400 := h.2.2.2.2.2.2.2
  have hp := h.1.1.1
  have hrd := (Ld_kd h).1
  have hc := c_cko (g := g) hp hrd
  have iB := hM.1.1.1
  have hl := iB.2.2.2.2.2.2.2.2.2.1
  have h8 := iB.2.2.2.2.2.2.2.1
  have r2 : gR (cH p s g) (p.1 (nb + 400)) 6 2 = some (p.1 (nb + 10)) := c_gR hp hrd rfl h.2.2.2.2.2.2.1
  have e3 : tdL t 1 (15164 : Int32) = some (Int64.ofNat nf) := (y_d (t := t) (k := 15164) (by decide)).trans (congrArg some hM.1.2.1.1.2.2.1)
  unfold f_X7_franchisee f_X7_franchisee_b0 f_X7_franchisee_b23 f_X7_franchisee_b51 f_X7_franchisee_b52 f_X7_franchisee_b77 t_X6_readFranchisee t_X6_readFranchisee_b0 t_X6_readFranchisee_b41 t_X6_readFranchisee_b137
  rw [r2, b1_some, c_gR hp iB.1 rfl iB.2.1, b1_some, c_cko hp hl.1, b1_some, b_size hp hl E, b2_some, hc, b1_some, e3, b1_some]
  by_cases q : nf = 8
  · obtain ⟨a9, H, t9, o1, o2, o3, -⟩ := L_fail (E := E) h hr (by omega) (by omega) hnb h.2.2.1 (Ld_kd h).2.2.2.2.1 (c := 4) (by decide)
    refine Or.inr ⟨a9, H, t9, ?_, ?_, o3⟩
    · rw [if_pos (by rw [q]; decide), o1, b2_some, el_r]
    · rw [b1_some, if_pos (by rw [q]; rfl), o2, b2_some, zgd0, b1_some]
  rw [if_neg (by rw [show (8 : Int32) = Int32.ofNat 8 from rfl, i32_le (by decide) (by omega)]; omega), b1_some, if_neg (show ¬ Int64.ofNat nf = (8 : Int64) from fun w => q ((i64_eq (b := 8) (by omega) (by decide)).mp w)), req_t, b2_some, el_l, hc, b1_some]
  obtain ⟨p1, s1, g1, t1, ps1, kd1, a1, a2, h1, a4, a5, K1, -⟩ := L_s0 hE h hr ⟨by omega, by omega, by omega⟩ hnb hkd
  have M1 := Mk_Kq hM zb.1 K1 (show z ≤ z + 2 by omega)
  obtain ⟨c1, c2', c3, c4, c5', -, c7'⟩ := Ld_kd h1
  have hp1 := h1.1.1.1
  have ck1 := c_cko (g := g1) hp1 c1
  have g5 : gI (cH p1 s1 g1) (p1.1 (nb + 400)) 6 5 = some (Int32.ofNat kd1) := (c_gI hp1 c1 rfl).trans (congrArg some c2')
  rw [a1, b2_some, a2, b2_some, ← K1.2.1, g5, b1_some, c3]
  by_cases w : kd1 = 1
  rotate_left
  · have e1 : ¬ Int32.ofNat kd1 = (1 : Int32) := fun q => w ((kd_eq c4 (by decide)).mp q)
    obtain ⟨a9, H, t9, o1, o2, o3, -⟩ := L_fail (E := E) h1 hr (by omega) (by omega) hnb h1.2.2.1 c5' (c := 1) (by decide)
    refine Or.inr ⟨a9, H, t9, ?_, ?_, o3⟩
    · rw [if_neg e1, ck1, b1_some, o1, b2_some, el_r]
    · rw [if_neg e1, o2, b2_some, zgd0, b1_some]
  obtain ⟨d, a, la, hd, hv, h7, hS⟩ := c7' w
  have e1 : Int32.ofNat kd1 = (1 : Int32) := by rw [w]; rfl
  have sv1 := svw_tr hsv K1.2.2.1
  obtain ⟨g2, hg, xr⟩ := x_res (E := E) hE hp1 h1.1.1.2.2.1 (Lt_svw sv1 hL) c1 h7 hd hS
  obtain ⟨h2, K2⟩ := Ld_hG h1 hg la
  have K12 := Kq_tr K1 K2 (show z ≤ z + 2 by omega)
  have M2 := Mk_Kq hM zb.1 K12 (show z ≤ z + 2 by omega)
  have st := y_stm (E := E) (c3.trans e1) hv hd
  have ck2 := c_cko (g := g2) hp1 c1
  rw [if_pos e1, if_pos e1, ck1, b1_some, xr, b2_some, st, b2_some]
  by_cases rd : resd d
  · obtain ⟨i, i1, i2, i3⟩ := rd
    have ns : ¬ stI d = -1 := by
      rw [i3, stI_kw i i1 i2]
      exact i32_neg1 (by omega)
    obtain ⟨a9, H, t9, o1, o2, o3, -⟩ := L_fail (E := E) h2 hr (by omega) (by omega) hnb h2.2.2.1 c5' (c := 1) (by decide)
    refine Or.inr ⟨a9, H, t9, ?_, ?_, o3⟩
    · rw [bi_t ⟨i, i1, i2, i3⟩, if_neg (by decide), ck2, b1_some, o1, b2_some, el_r]
    · rw [if_neg ns, o2, b2_some, zgd0, b1_some]
  have hS2 := hg.2.2.2.2 a _ hS
  have r7 : gR (cH p1 s1 g2) (p1.1 (nb + 400)) 6 7 = some a := by
    have := c_gR (g := g2) hp1 c1 rfl h7
    rw [h1.1.1.2.2.1] at this
    exact this
  have r1 : gR (cH p1 s1 g2) (p1.1 (nb + 400)) 6 1 = some (p1.1 (nb + 202)) := c_gR hp1 c1 rfl h2.2.2.2.2.2.1
  have N2 := M2.2.2.1.1
  have ckc := c_cko (g := g2) hp1 N2.1.1
  rw [bi_f rd, if_pos rfl, ck2, b1_some, req_t, b2_some, el_l, r1, b1_some, r7, b1_some, ckc, b1_some, stI_n rd, if_pos rfl, hv]
  rcases L_nmd (blk := 3) hE h2.1.1 (by decide) N2 hd hS2 with ⟨i, i1, i2, i3, i4⟩ | ⟨i1, i3, i4⟩
  · have ni : ¬ Int32.ofNat i = -1 := i32_neg1 (by have := N2.1.2.2.2; omega)
    obtain ⟨a9, H, t9, o1, o2, o3, -⟩ := L_fail (E := E) h2 hr (by omega) (by omega) hnb h2.2.2.1 c5' (c := 3) (by decide)
    refine Or.inr ⟨a9, H, t9, ?_, ?_, o3⟩
    · rw [i3, b2_some, if_neg ni, ck2, b1_some, o1, b2_some, el_r]
    · rw [show (3 : Int32) = Int32.ofNat 3 from rfl, i4, b2_some, if_neg ni, ← show (3 : Int32) = Int32.ofNat 3 from rfl, o2, b2_some, zgd0, b1_some]
  have e3' : ∀ u : twS, u.1 = t1.1 → tdL u 1 (15164 : Int32) = some (Int64.ofNat nf) := fun u hu => (y_d (t := u) (k := 15164) (by decide)).trans (congrArg some (by rw [hu]; exact M2.1.2.1.1.2.2.1))
  have eT : (15220 : Int32) + (16 : Int32) * (Int64.ofNat nf).toInt32 = Int32.ofNat (15220 + 16 * nf) := by
    rw [i64_32, show (15220 : Int32) = Int32.ofNat 15220 from rfl, show (16 : Int32) = Int32.ofNat 16 from rfl, ← Int32.ofNat_mul, ← Int32.ofNat_add]
  have eT0 : Int32.ofNat (15220 + 16 * nf) + (0 : Int32) = Int32.ofNat (15162 + (58 + 16 * nf + 0)) := by
    rw [show (0 : Int32) = Int32.ofNat 0 from rfl, ← Int32.ofNat_add, show 15220 + 16 * nf + 0 = 15162 + (58 + 16 * nf + 0) by omega]
  have eT1 : Int32.ofNat (15220 + 16 * nf) + (1 : Int32) = Int32.ofNat (15162 + (58 + 16 * nf + 1)) := by
    rw [show (1 : Int32) = Int32.ofNat 1 from rfl, ← Int32.ofNat_add, show 15220 + 16 * nf + 1 = 15162 + (58 + 16 * nf + 1) by omega]
  have eT2 : Int32.ofNat (15220 + 16 * nf) + (2 : Int32) = Int32.ofNat (15162 + (58 + 16 * nf + 2)) := by
    rw [show (2 : Int32) = Int32.ofNat 2 from rfl, ← Int32.ofNat_add, show 15220 + 16 * nf + 2 = 15162 + (58 + 16 * nf + 2) by omega]
  have hnf : nf < 8 := Nat.lt_of_le_of_ne h8 q
  -- the name is kept, and passed
  obtain ⟨tA, htA⟩ : ∃ tA, tA = uSt t1 (va_up t1.1 (15162 + (58 + 16 * nf + 0)) (Int64.ofNat (wpk d))) := ⟨_, rfl⟩
  have upA : up t1 tA := by rw [htA]; exact up_st t1 (by omega) _
  have hA := Ld_up h2 (Tr_0 h2.1.1) (z1 := z + 2) (t1 := tA) (fun _ _ => ⟨rfl, rfl, rfl, rfl, rfl⟩) (Nat.le_refl _) (by omega) (fun _ _ _ => rfl) upA
  obtain ⟨p3, s3, g3, t3, ps3, kd3, b1, b2, h3, b4, b5, K3, -⟩ := L_s0 hE hA hr ⟨by omega, by omega, by omega⟩ hnb (by omega)
  have K3' : Kq nb (z + 2) p1 s1 g2 t1 p3 s3 g3 t1 := ⟨K3.1, K3.2.1, K3.2.2.1, rfl, rfl, rfl⟩
  have M3 := Mk_Kq M2 (by omega) K3' (show z + 2 ≤ z + 2 + 2 by omega)
  have hp3 := h3.1.1.1
  have rd3 := (Ld_kd h3).1
  have ck3 := c_cko (g := g3) hp3 rd3
  have R3 := M3.2.1.1
  have r31 : gR (cH p3 s3 g3) (p3.1 (nb + 400)) 6 1 = some (p3.1 (nb + 202)) := c_gR hp3 rd3 rfl h3.2.2.2.2.2.1
  have r32 : gR (cH p3 s3 g3) (p3.1 (nb + 202)) 2 0 = some (p3.1 (nb + 203)) := c_gR hp3 R3.1 rfl R3.2.1
  have l3 := R3.2.2.2.2.2.2.2.2.2.2.1
  have np4 : np ≤ 4 := R3.2.2.2.2.2.2.2.2.2.1
  have t3A : t3.1 = tA.1 := K3.2.2.2.1
  have eP : tdL t3 1 (15163 : Int32) = some (Int64.ofNat np) := by
    refine (y_d (t := t3) (k := 15163) (by decide)).trans (congrArg some ?_)
    rw [t3A, htA]
    show va_up t1.1 _ _ 15163 = _
    rw [cu_ne _ _ (by omega)]
    exact M2.2.1.2.1.1.1
  rw [i3, b2_some, if_pos rfl, ck2, b1_some, req_t, b2_some, el_l, r7, b1_some, ck2, b1_some, show (3 : Int32) = Int32.ofNat 3 from rfl, i4, b2_some, if_pos rfl, e3' t1 rfl, b1_some, eT, eT0, y_s (by omega), b1_some, hv, ← htA, b1, b2_some, b2, b2_some, ← K3.2.1, r31, b1_some, r32, b1_some, c_cko hp3 l3.1.1, b1_some, b_size hp3 l3.1 E, b2_some, ck3, b1_some, eP, b1_some, i64_32]
  -- its plan
  rcases L_num (E := E) hE h3 hr ⟨by omega, by omega, by omega⟩ hnb 0 (Int32.ofNat np - 1) with ⟨pl, p4, s4, g4, t4, ps4, kd4, x11, x12, x13, d1, d2, h4, d4, d5, K4, d6⟩ | ⟨a9, H, t9, d1, d2, d3⟩
  rotate_left
  · exact Or.inr ⟨a9, H, t9, by rw [d1, b2_some, el_r], by rw [y_into0 d2, b2_some, if_pos rfl], d3⟩
  have hnp : (Int32.ofNat np - (1 : Int32)).toInt = (np : Int) - 1 := by
    rw [Int32.toInt_sub, Int32.toInt_ofNat_of_lt (by omega)]
    show ((np : Int) - 1).bmod (2 ^ 32) = _
    rw [Int.bmod_eq_of_le (by omega) (by omega)]
  rw [hnp] at x13
  have K4' : Kq nb (z + 2 + 2) p3 s3 g3 t1 p4 s4 g4 t1 := ⟨K4.1, K4.2.1, K4.2.2.1, rfl, rfl, rfl⟩
  have M4 := Mk_Kq M3 (by omega) K4' (show z + 2 + 2 ≤ z + 2 + 2 + 2 by omega)
  have y1 := y_into (unit := 1) (y := 58 + 16 * nf + 1) (by omega) d2 d6 eT1
  obtain ⟨tB, htB⟩ : ∃ tB, tB = uSt t4 (va_up t4.1 (15162 + (58 + 16 * nf + 1)) (Int64.ofNat pl)) := ⟨_, rfl⟩
  rw [Int64.mul_one, i32_64 (by omega), ← htB] at y1
  have hp4 := h4.1.1.1
  have r42 : gR (cH p4 s4 g4) (p4.1 (nb + 400)) 6 2 = some (p4.1 (nb + 10)) := c_gR hp4 (Ld_kd h4).1 rfl h4.2.2.2.2.2.2.1
  have iB4 := M4.1.1.1
  have r43 : gR (cH p4 s4 g4) (p4.1 (nb + 10)) 4 0 = some (p4.1 (nb + 11)) := c_gR hp4 iB4.1 rfl iB4.2.1
  obtain ⟨zC, zD, zV, zS⟩ := M4.1.2.2.2.2.1 nf (Nat.le_refl _) (by omega)
  obtain ⟨n1, T5⟩ := Tr_new (fs := [.null, .null, .null, .int 0, .int 0, .int 0, .int 0, .int 0, .long 0, .long 0, .long 0]) (Tr_0 h4.1.1) (Tr_rm h4.1 hr (k1 := 1) (m1 := 11) (by omega) (by omega)) (nb + 130 + nf) 10 11 (by omega) (by omega) zC (by omega) rfl
  obtain ⟨p5, hp5⟩ : ∃ p5, p5 = pA p4 (nb + 130 + nf) g4.2.1 := ⟨_, rfl⟩
  obtain ⟨s5, hs5⟩ : ∃ s5, s5 = sNw s4 (nb + 130 + nf) (1, 10) := ⟨_, rfl⟩
  obtain ⟨g5', hg5⟩ : ∃ g5', g5' = zadd g4 (true, .inr (10, [.null, .null, .null, .int 0, .int 0, .int 0, .int 0, .int 0, .long 0, .long 0, .long 0])) 11 := ⟨_, rfl⟩
  rw [← hp5, ← hs5, ← hg5] at n1 T5
  have F5 : ∀ e, e ≠ nb + 130 + nf → p5.1 e = p4.1 e ∧ s5.1 e = s4.1 e ∧ s5.2.1 e = s4.2.1 e ∧ s5.2.2.1 e = s4.2.2.1 e ∧ s5.2.2.2 e = s4.2.2.2 e := fun e he => by
    rw [hp5, hs5]
    exact ⟨cu_ne p4.1 _ he, sNw_o s4 he _⟩
  have S5 := sNw_s s4 (nb + 130 + nf) (1, 10)
  rw [← hs5] at S5
  have pC5 : p5.1 (nb + 130 + nf) = g4.2.1 := by rw [hp5]; exact cu_same _ _ _
  have h5 := Ld_up h4 T5 (z1 := z + 2 + 2 + 2) (t1 := tB) (fun e he => F5 e (by omega)) (Nat.le_refl _) (by omega) (fun e e1 e2 => (F5 e (by omega)).2.1) (by rw [htB]; exact up_st t4 (by omega) _)
  have ck5 := c_cko (g := g5') h5.1.1.1 (Ld_kd h5).1
  rw [d1, b2_some, el_l, ← K4.2.1, r42, b1_some, r43, b1_some, n1, b2_some, y1, b2_some, if_neg (show ¬ (1 : Int32) = 0 by decide), ← (F5 (nb + 400) (by omega)).1, ck5, b1_some]
  -- its worth
  rcases L_num (E := E) hE h5 hr ⟨by omega, by omega, by omega⟩ hnb 0 999 with ⟨wo, p6, s6, g6, t6, ps6, kd6, w11, w12, w13, o1, o2, h6, o4, o5, K6, o6⟩ | ⟨a9, H, t9, o1, o2, o3⟩
  rotate_left
  · exact Or.inr ⟨a9, H, t9, by rw [o1, b2_some, el_r], by rw [y_into0 o2, b2_some, if_pos rfl], o3⟩
  have t999 : (999 : Int32).toInt = 999 := by decide
  rw [t999] at w13
  have y2 := y_into (unit := 1) (y := 58 + 16 * nf + 2) (by omega) o2 o6 eT2
  obtain ⟨tC, htC⟩ : ∃ tC, tC = uSt t6 (va_up t6.1 (15162 + (58 + 16 * nf + 2)) (Int64.ofNat wo)) := ⟨_, rfl⟩
  rw [Int64.mul_one, i32_64 (by omega), ← htC] at y2
  have F6 : ∀ e, e ≠ nb + 400 → e < z + 2 + 2 + 2 → e ≠ nb + 130 + nf → p6.1 e = p4.1 e ∧ s6.1 e = s4.1 e ∧ s6.2.1 e = s4.2.1 e ∧ s6.2.2.1 e = s4.2.2.1 e ∧ s6.2.2.2 e = s4.2.2.2 e := fun e e1 e2 e3 => by
    have x := F5 e e3
    have y := K6.1 e e1 e2
    exact ⟨y.1.trans x.1, y.2.1.trans x.2.1, y.2.2.1.trans x.2.2.1, y.2.2.2.1.trans x.2.2.2.1, y.2.2.2.2.trans x.2.2.2.2⟩
  have C6 := K6.1 (nb + 130 + nf) (by omega) (by omega)
  have sv6 : svw (rv0 p1 g2) (rv0 p6 g6) := svw_tr K3.2.2.1 (svw_tr K4.2.2.1 (svw_tr (svw_mono (rv0_Tr T5)) K6.2.2.1))
  have k11 := F6 (nb + 11) (by omega) (by omega) (by omega)
  have k12 := F6 (nb + 12) (by omega) (by omega) (by omega)
  have k13 := F6 (nb + 13) (by omega) (by omega) (by omega)
  have k14 := F6 (nb + 14) (by omega) (by omega) (by omega)
  have k205 := F6 (nb + 205) (by omega) (by omega) (by omega)
  have k206 := F6 (nb + 206) (by omega) (by omega) (by omega)
  have k202 := F6 (nb + 202) (by omega) (by omega) (by omega)
  have kD := F6 (nb + 140 + nf) (by omega) (by omega) (by omega)
  have kV := F6 (nb + 150 + nf) (by omega) (by omega) (by omega)
  have kS := F6 (nb + 160 + nf) (by omega) (by omega) (by omega)
  have l6 := lsc_cg M4.1.1.2.1 ⟨k11.2.1, k11.2.2.1, k11.2.2.2.2⟩ ⟨k12.2.1, k12.2.2.2.2⟩
  have ln6 := lsc_cg M4.2.2.1.2 ⟨k205.2.1, k205.2.2.1, k205.2.2.2.2⟩ ⟨k206.2.1, k206.2.2.2.2⟩
  have iB6 : iBk s6 nb nf no := iBk_cg iB4 (fun e he => by have k := F6 e (by omega) (by omega) (by omega); exact ⟨k.2.1, k.2.2.2.2⟩) h8 iB4.2.2.2.2.2.2.2.2.1 l6.1 (lst_cg iB4.2.2.2.2.2.2.2.2.2.2.1 k13.2.1 k13.2.2.1 k13.2.2.2.2 k14.2.1 k14.2.2.2.2) (fun j hj => iFr_cg (iB4.2.2.2.2.2.2.2.2.2.2.2.2.1 j hj) (fun e he => by have k := F6 e (by omega) (by omega) (by omega); exact ⟨k.2.1, k.2.2.2.2⟩)) (fun j hj => by have jj := iB4.2.2.2.2.2.2.2.2.1; rw [(F6 _ (by omega) (by omega) (by omega)).2.1]; exact iB4.2.2.2.2.2.2.2.2.2.2.2.2.2.1 j hj)
  obtain ⟨p7, s7, g7, u1, T7, v1, v2, v3, ⟨w1, w2, w3, w4, w5, w6⟩, v5, v6, v7⟩ := K_fra (E := E) (na := na) (nm := nm) (aw := a) (d := d) h6.1.1 (Tr_rm h6.1 hr (k1 := 10) (m1 := 600) (by omega) (by omega)) ⟨n400, hnb⟩ iB6 l6 (by omega) (C6.2.1.trans S5.1) (by rw [kD.2.1]; exact zD) (by rw [kV.2.1]; exact zV) (by rw [kS.2.1]; exact zS) (Ld_kd h6).1 h6.2.2.2.2.2.1 (by rw [k202.2.1]; exact M4.2.1.1.1) ((congrFun k202.2.2.2.2 1).trans M4.2.1.1.2.2.1) ln6 (fun j hj => sv6.2 _ _ (M2.2.2.1.1.2.1 j hj).2.1) (sv6.2 _ _ hS2) (Int32.ofNat pl) (Int32.ofNat wo)
  have t4A : t4.1 = tA.1 := K4.2.2.2.1.trans t3A
  have t6B : t6.1 = tB.1 := K6.2.2.2.1
  have eF : tdL tC 1 (15164 : Int32) = some (Int64.ofNat nf) := by
    refine (y_d (t := tC) (k := 15164) (by decide)).trans (congrArg some ?_)
    rw [htC]
    show va_up t6.1 _ _ 15164 = _
    rw [cu_ne _ _ (by omega), t6B, htB]
    show va_up t4.1 _ _ 15164 = _
    rw [cu_ne _ _ (by omega), t4A, htA]
    show va_up t1.1 _ _ 15164 = _
    rw [cu_ne _ _ (by omega)]
    exact M2.1.2.1.1.2.2.1
  obtain ⟨tD, htD⟩ : ∃ tD, tD = uSt tC (va_up tC.1 15164 (Int64.ofNat nf + 1)) := ⟨_, rfl⟩
  have ySD : tsL tC 1 (15164 : Int32) (Int64.ofNat nf + 1) = some tD := by rw [htD]; exact y_s (t := tC) (k := 15164) (by decide)
  have upD : up t6 tD := by
    refine up_tr (t1 := tC) (by rw [htC]; exact up_st t6 (by omega) _) (by rw [htD]; exact up_st tC (by omega) _)
  have h7' := Ld_up h6 T7 (z1 := z + 2 + 2 + 2 + 2) (t1 := tD) (fun e he => v6 e (by omega) (by omega) (by omega) (by omega) (by omega) (by omega) (by omega) (by omega)) (Nat.le_refl _) (by omega) (fun e e1 e2 => v7 e (by omega) (by omega) (by omega) (by omega) (by omega)) upD
  -- what the twin's block is now
  have TD : ∀ y, dr tD y = if y = 2 then Int64.ofNat nf + 1 else if y = 58 + 16 * nf + 2 then Int64.ofNat wo else if y = 58 + 16 * nf + 1 then Int64.ofNat pl else if y = 58 + 16 * nf + 0 then Int64.ofNat (wpk d) else dr t1 y := fun y => by
    unfold dr
    rw [htD]
    show va_up tC.1 15164 _ (15162 + y) = _
    unfold va_up
    by_cases y1 : y = 2
    · rw [if_pos (by omega), if_pos y1]
    · rw [if_neg (by omega), if_neg y1, htC]
      show va_up t6.1 _ _ (15162 + y) = _
      unfold va_up
      by_cases y2 : y = 58 + 16 * nf + 2
      · rw [if_pos (by omega), if_pos y2]
      · rw [if_neg (by omega), if_neg y2, t6B, htB]
        show va_up t4.1 _ _ (15162 + y) = _
        unfold va_up
        by_cases y3 : y = 58 + 16 * nf + 1
        · rw [if_pos (by omega), if_pos y3]
        · rw [if_neg (by omega), if_neg y3, t4A, htA]
          show va_up t1.1 _ _ (15162 + y) = _
          unfold va_up
          by_cases y4 : y = 58 + 16 * nf + 0
          · rw [if_pos (by omega), if_pos y4]
          · rw [if_neg (by omega), if_neg y4]
  have M7 : Mk nb (z + 2 + 2 + 2 + 2) c7 c8 c9 np (nf + 1) no cnt nt (fun i => if i = nf then a else na i) (fun i => if i = nf then d else nm i) s7 (rv0 p7 g7) (dr tD) := by
    have M4z : Mk nb (z + 2 + 2 + 2 + 2) c7 c8 c9 np nf no cnt nt na nm s4 (rv0 p4 g4) (dr t1) := Mk_Kq M4 (by omega) (Kq_rfl nb (z + 2 + 2 + 2) p4 s4 g4 t1) (by omega)
    obtain ⟨kk7, kk8, kk9⟩ := M4.2.2.2.2
    have F7 : ∀ e, e ≠ nb + 400 → e < z + 2 + 2 + 2 → e ≠ nb + 130 + nf → e ≠ nb + 140 + nf → e ≠ nb + 150 + nf → e ≠ nb + 160 + nf → e ≠ nb + 11 → e ≠ nb + 12 → e ≠ nb + 205 → e ≠ nb + 206 → s7.1 e = s4.1 e ∧ s7.2.1 e = s4.2.1 e ∧ s7.2.2.1 e = s4.2.2.1 e ∧ s7.2.2.2 e = s4.2.2.2 e := fun e e0 e00 e1 e2 e3 e4 e5 e6 e7 e8 => by
      have x := F6 e e0 e00 e1
      have y := v6 e e1 e2 e3 e4 e5 e6 e7 e8
      exact ⟨y.2.1.trans x.2.1, y.2.2.1.trans x.2.2.1, y.2.2.2.1.trans x.2.2.2.1, y.2.2.2.2.trans x.2.2.2.2⟩
    have M4y : Mk nb (z + 2 + 2 + 2) c7 c8 c9 np (nf + 1) no cnt nt (fun i => if i = nf then a else na i) (fun i => if i = nf then d else nm i) s7 (rv0 p7 g7) (dr tD) := Mk_fra M4 (by omega) (pl := pl) (wo := wo) (by omega) (by omega) hnf v1 v2 v3 w1 w2 w3 (w4.trans ((congrFun C6.2.2.1 6).trans (congrFun S5.2.1 6))) (w5.trans ((congrFun C6.2.2.1 7).trans (congrFun S5.2.1 7))) (fun k => (w6 k).trans ((congrFun C6.2.2.2.1 k).trans (congrFun S5.2.2.1 k))) v5.1 v5.2 (fun e e0 e1 e2 e3 e4 e5 e6 e7 e8 => F7 e (by omega) (by omega) e1 e2 e3 e4 e5 e6 e7 e8) (svw_tr (svw_mono (rv0_Tr T5)) (svw_tr K6.2.2.1 (svw_mono (rv0_Tr T7)))) hd ((svw_mono (rv0_Tr T7)).2 _ _ (sv6.2 _ _ hS2)) (by rw [TD, if_pos rfl, i64_s]) (by rw [TD, if_neg (by omega), if_neg (by omega), if_neg (by omega), if_pos rfl]) (by rw [TD, if_neg (by omega), if_neg (by omega), if_pos rfl]) (by rw [TD, if_neg (by omega), if_pos rfl]) (fun y y1 y2 => by rw [TD, if_neg y1, if_neg (by omega), if_neg (by omega), if_neg (by omega)])
    exact Mk_Kq M4y (by omega) (Kq_rfl nb (z + 2 + 2 + 2) p7 s7 g7 tD) (by omega)
  have e11 : p6.1 (nb + 11) = p4.1 (nb + 11) := k11.1
  have eC : p6.1 (nb + 130 + nf) = g4.2.1 := C6.1.trans pC5
  refine Or.inl ⟨p7, s7, g7, tD, _, _, ps6, _, kd6, _, _, _, _, _, _, _, _, _, ?_, fun x t10 hx3 e9 => ?_, h7', M7, by omega, by omega, by omega, by omega, by omega, ?_⟩
  · rw [o1, b2_some, el_l, ← eC, ← e11, ← K6.2.1]
    exact u1
  · rw [y2, b2_some, if_neg (show ¬ (1 : Int32) = 0 by decide), eF, b1_some, ySD, b1_some]
    exact y_fin hx3 e9
  · exact (v6 _ (by omega) (by omega) (by omega) (by omega) (by omega) (by omega) (by omega) (by omega)).1.trans K6.2.1
end LF
