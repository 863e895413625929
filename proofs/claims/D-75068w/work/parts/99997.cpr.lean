/-! books copied: whole -/
set_option maxRecDepth 100000
section CP
variable {p : cP} {s : cT} {g : zH} {o u nf no mo : Nat}
/-- the books under o (tables s1) are those under u (tables s) -/
def bkC (s s1 : cT) (o u nf no mo : Nat) : Prop := (∀ i, i < nf → frC s s1 o u i mo) ∧ (∀ k, k < no → ouC s s1 o u k) ∧ (∀ c, c < 900 → s1.2.1 (o + 16) c = s.2.1 (u + 16) c) ∧ (∀ f x, f < 8 → x < 8 → s1.2.2.1 (o + 190 + f) x = s.2.2.1 (u + 190 + f) x) ∧ (∀ k, k < 3 → s1.2.2.1 (o + 20) k = s.2.2.1 (u + 20) k) ∧ s1.2.1 (o + 10) 5 = s.2.1 (u + 10) 5
theorem cp_rest (E : zE) (hE : 1000 ≤ E.1) (ho : o + 200 ≤ XT) (hou : u + 200 ≤ o ∨ o + 200 ≤ u) (hp : okP p s) (hB : iBk s u nf no) (hC : iBk s o nf no) : ∃ s9, bnd2 (f_X5_like E (p.1 (o + 15)) (p.1 (u + 15)) (cH p s g)) (fun _ h13 => f_X4_copy_l162 E E.1 (p.1 (u + 10)) (p.1 (o + 10)) (0 : Int32) h13) = some (p.1 (o + 10), cH p s9 g) ∧ s9.1 = s.1 ∧ s9.2.2.2 = s.2.2.2 ∧ (∀ d, d ≠ o + 10 → d ≠ o + 16 → s9.2.1 d = s.2.1 d) ∧ (∀ k, s9.2.1 (o + 10) k = if k = 5 then s.2.1 (u + 10) 5 else s.2.1 (o + 10) k) ∧ (∀ c, c < 900 → s9.2.1 (o + 16) c = s.2.1 (u + 16) c) ∧ (∀ d, d ≠ o + 20 → d < o + 190 ∨ o + 198 ≤ d → s9.2.2.1 d = s.2.2.1 d) ∧ (∀ f x, f < 8 → x < 8 → s9.2.2.1 (o + 190 + f) x = s.2.2.1 (u + 190 + f) x) ∧ ∀ k, k < 3 → s9.2.2.1 (o + 20) k = s.2.2.1 (u + 20) k := by
  have gu := hB.2.2.2.2.2.2.2.2.2.2.2.1
  have go := hC.2.2.2.2.2.2.2.2.2.2.2.1
  have du := hB.2.2.2.2.2.2.2.2.2.2.2.2.2.2
  have do' := hC.2.2.2.2.2.2.2.2.2.2.2.2.2.2
  have e1 := c_cpB (p := p) (s := s) (g := g) hp (c := u + 16) (d := o + 16) (n0 := 900) (n1 := 900) (n := 900) gu.2.2.2.2.1 go.2.2.2.2.1 (by decide) (by decide) (by decide)
  generalize hs2 : uA s (o + 16) (fun j => if j < 900 then s.2.1 (u + 16) j else s.2.1 (o + 16) j) = s2 at e1
  have S2 : s2.1 = s.1 := by rw [← hs2]; rfl
  have R2 : s2.2.2.2 = s.2.2.2 := by rw [← hs2]; rfl
  have L2 : s2.2.2.1 = s.2.2.1 := by rw [← hs2]; rfl
  have I2 : ∀ d, d ≠ o + 16 → s2.2.1 d = s.2.1 d := fun d hd => funext fun k => by rw [← hs2, uA_app, if_neg hd]
  have I2c : ∀ c, c < 900 → s2.2.1 (o + 16) c = s.2.1 (u + 16) c := fun c hc => by rw [← hs2, uA_app, if_pos rfl, if_pos hc]
  have K : ∀ a : cT, a.1 = s2.1 → okP p a := fun a ha => okP_t hp (ha.trans S2)
  have key : Ww (f_X4_copy_l162 E E.1 (p.1 (u + 10)) (p.1 (o + 10)) (0 : Int32) (cH p s2 g)) fun z => ∃ s9, z = (p.1 (o + 10), cH p s9 g) ∧ s9.1 = s2.1 ∧ s9.2.2.2 = s2.2.2.2 ∧ (∀ d, d ≠ o + 10 → s9.2.1 d = s2.2.1 d) ∧ (∀ k, s9.2.1 (o + 10) k = if k = 5 then s2.2.1 (u + 10) 5 else s2.2.1 (o + 10) k) ∧ (∀ d, d ≠ o + 20 → d < o + 190 ∨ o + 198 ≤ d → s9.2.2.1 d = s2.2.2.1 d) ∧ (∀ f x, f < 8 → x < 8 → s9.2.2.1 (o + 190 + f) x = s2.2.2.1 (u + 190 + f) x) ∧ ∀ k, k < 3 → s9.2.2.1 (o + 20) k = s2.2.2.1 (u + 20) k := by
    refine w_lp (σ := cT) (L := fun m k a => f_X4_copy_l162 E m (p.1 (u + 10)) (p.1 (o + 10)) k (cH p a g)) (n := 8) (by decide) (Inv := fun j a => a.1 = s2.1 ∧ a.2.1 = s2.2.1 ∧ a.2.2.2 = s2.2.2.2 ∧ (∀ d, d < o + 190 ∨ o + 190 + j ≤ d → a.2.2.1 d = s2.2.2.1 d) ∧ ∀ f x, f < j → x < 8 → a.2.2.1 (o + 190 + f) x = s2.2.2.1 (u + 190 + f) x) (fun m j a hj ha k => ?_) (fun m a ha => ?_) 8 0 E.1 s2 rfl (by omega) ⟨rfl, rfl, rfl, fun _ _ => rfl, fun f x hf => by omega⟩
    · show Ww (f_X4_copy_l162 E (m + 1) (p.1 (u + 10)) (p.1 (o + 10)) (Int32.ofNat j) (cH p a g)) _
      obtain ⟨a1, a2, a3, a4, a5⟩ := ha
      have hpa := K a a1
      have sh : ∀ d, a.1 d = s.1 d := fun d => by rw [a1, S2]
      have rf : ∀ d k, a.2.2.2 d k = s.2.2.2 d k := fun d k => by rw [a3, R2]
      have hnj : ¬ (Int32.ofNat j < 0 ∨ 8 ≤ (Int32.ofNat j).toNatClampNeg) := by rw [nat_clamp (by omega)]; exact fun q => q.elim (i32_nneg (by omega)) (by omega)
      have e3 := c_cpL (p := p) (s := a) (g := g) hpa (c := u + 190 + j) (d := o + 190 + j) (n0 := 8) (n1 := 8) (n := 8) (by rw [sh]; exact (du.2.1 j hj).2) (by rw [sh]; exact (do'.2.1 j hj).2) (by decide) (by decide) (by decide)
      unfold f_X4_copy_l162
      rw [if_neg (show ¬ (8 : Int32) ≤ Int32.ofNat j from le_ofn (n := 8) (by decide) hj), c_gR hpa (by rw [sh]; exact hB.1) rfl (by rw [rf]; exact hB.2.2.2.2.1), b1_some, c_dR hpa (t := 5) (n := 8) (by rw [sh]; exact du.1) (Or.inr (Or.inl rfl)) hnj (by rw [nat_clamp (by omega), rf]; exact (du.2.1 j hj).1), b1_some, c_gR hpa (by rw [sh]; exact hC.1) rfl (by rw [rf]; exact hC.2.2.2.2.1), b1_some, c_dR hpa (t := 5) (n := 8) (by rw [sh]; exact do'.1) (Or.inr (Or.inl rfl)) hnj (by rw [nat_clamp (by omega), rf]; exact (do'.2.1 j hj).1), b1_some]
      rw [show (8 : Int32) = Int32.ofNat 8 from rfl, e3, b1_some, i32_s]
      refine k _ ⟨a1, a2, a3, fun d hd => ?_, fun f x hf hx => ?_⟩
      · exact (show va_up a.2.2.1 (o + 190 + j) _ d = _ from cu_ne _ _ (by omega)).trans (a4 d (by omega))
      · rw [uF_app]
        by_cases w : f = j
        · rw [if_pos (by rw [w]), if_pos hx, w, a4 _ (by omega)]
        · rw [if_neg (by omega)]; exact a5 f x (by omega) hx
    · show Ww (f_X4_copy_l162 E (m + 1) (p.1 (u + 10)) (p.1 (o + 10)) (Int32.ofNat 8) (cH p a g)) _
      obtain ⟨a1, a2, a3, a4, a5⟩ := ha
      have hpa := K a a1
      have sh : ∀ d, a.1 d = s.1 d := fun d => by rw [a1, S2]
      have rf : ∀ d k, a.2.2.2 d k = s.2.2.2 d k := fun d k => by rw [a3, R2]
      have e3 := c_cpL (p := p) (s := a) (g := g) hpa (c := u + 20) (d := o + 20) (n0 := 3) (n1 := 3) (n := 3) (by rw [sh]; exact du.2.2) (by rw [sh]; exact do'.2.2) (by decide) (by decide) (by decide)
      generalize hs4 : uF a (o + 20) (fun j => if j < 3 then a.2.2.1 (u + 20) j else a.2.2.1 (o + 20) j) = s4 at e3
      have S4 : s4.1 = s.1 := by rw [← hs4]; exact a1.trans S2
      have I4 : s4.2.1 = s2.2.1 := by rw [← hs4]; exact a2
      have R4 : s4.2.2.2 = s2.2.2.2 := by rw [← hs4]; exact a3
      unfold f_X4_copy_l162
      rw [if_pos (show (8 : Int32) ≤ Int32.ofNat 8 from Int32.le_refl _), c_gR hpa (by rw [sh]; exact hB.1) rfl (by rw [rf]; exact hB.2.2.2.2.2.1), b1_some, c_gR hpa (by rw [sh]; exact hC.1) rfl (by rw [rf]; exact hC.2.2.2.2.2.1), b1_some, show (3 : Int32) = Int32.ofNat 3 from rfl, e3, b1_some, c_gI (K s4 (S4.trans S2.symm)) (by rw [S4]; exact hB.1) rfl, b1_some, c_pI (K s4 (S4.trans S2.symm)) (by rw [S4]; exact hC.1) rfl, b1_some, w_some]
      refine ⟨_, rfl, S4.trans S2.symm, R4, fun d hd => ?_, fun k => ?_, fun d d1 d2 => ?_, fun f x hf hx => ?_, fun k hk => ?_⟩
      · rw [uI_row _ hd, I4]
      · rw [uI_app, I4]
        exact ite_cg (by omega) rfl rfl
      · show s4.2.2.1 d = _
        rw [← hs4]
        exact (show va_up a.2.2.1 (o + 20) _ d = _ from cu_ne _ _ d1).trans (a4 d (by omega))
      · show s4.2.2.1 _ x = _
        rw [← hs4, uF_app, if_neg (by omega)]
        exact a5 f x hf hx
      · show s4.2.2.1 _ k = _
        rw [← hs4, uF_app, if_pos rfl, if_pos hk, a4 _ (by omega)]
  obtain ⟨z, ez, s9, rfl, z1, z2, z3, z4, z5, z6, z7⟩ := key
  refine ⟨s9, ?_, z1.trans S2, z2.trans R2, fun d d1 d2 => (z3 d d1).trans (I2 d d2), fun k => ?_, fun c hc => ?_, fun d d1 d2 => (z5 d d1 d2).trans (by rw [L2]), fun f x hf hx => (z6 f x hf hx).trans (by rw [L2]), fun k hk => (z7 k hk).trans (by rw [L2])⟩
  · unfold f_X5_like f_X5_like_b0
    rw [c_gR hp gu.1 rfl gu.2.1, b1_some, c_gR hp go.1 rfl go.2.1, b1_some, show (900 : Int32) = Int32.ofNat 900 from rfl, e1, b1_some, b2_some]
    exact ez
  · rw [z4, I2 _ (by omega), I2 _ (by omega)]
  · rw [z3 _ (by omega)]; exact I2c c hc
theorem K_X4_copy (E : zE) (h : Kp p s g) (hE : 1000 ≤ E.1) (ho : o + 200 ≤ XT) (hu : u + 200 ≤ XT) (hou : u + 200 ≤ o ∨ o + 200 ≤ u) (ho2 : 200 ≤ o) (h1 : s.1 1 = (1, 0)) (hB : iBk s u nf no) (hm : mo ≤ 60) (hmo : s.2.1 (u + 10) 5 = Int32.ofNat mo) (hrw : ∀ i m, i < nf → m < mo → ∃ e, s.2.2.2 (u + 150 + i) m = some e ∧ s.1 e = (3, 7)) (hro : ∀ i m e, i < nf → m < mo → s.2.2.2 (u + 150 + i) m = some e → e < o + 10 ∨ o + 200 ≤ e) (hz : ∀ d, o + 10 ≤ d → d < o + 200 → (s.1 d).1 = 0) (hr : rm g 150 10000) : ∃ p1 s1 g1, f_X4_copy E (p.1 (u + 10)) (cH p s g) = some (p1.1 (o + 10), cH p1 s1 g1) ∧ Tr p g p1 s1 g1 150 10000 ∧ iBk s1 o nf no ∧ lsc s1 (o + 13) (o + 14) no (fun k => o + 170 + k) ∧ bkC s s1 o u nf no mo ∧ frB o p s p1 s1 ∧ ∀ k, no ≤ k → k < 16 → (s1.1 (o + 170 + k)).1 = 0 := by
  have hf8 := hB.2.2.2.2.2.2.2.1
  have h16 := hB.2.2.2.2.2.2.2.2.1
  obtain ⟨e1, T1⟩ := Tr_new (fs := [.null, .null, .null, .null, .null, .int 0, .null]) (Tr_0 h) hr (o + 10) 4 7 (by decide) (by decide) (hz _ (by omega) (by omega)) (by omega) rfl
  generalize hp1 : pA p (o + 10) g.2.1 = p1 at e1 T1
  generalize hs1 : sNw s (o + 10) (1, 4) = s1 at e1 T1
  generalize hg1 : zadd g (true, .inr (4, [.null, .null, .null, .null, .null, .int 0, .null])) 7 = g1 at e1 T1
  have f1 : ∀ d, d ≠ o + 10 → p1.1 d = p.1 d ∧ s1.1 d = s.1 d ∧ s1.2.1 d = s.2.1 d ∧ s1.2.2.1 d = s.2.2.1 d ∧ s1.2.2.2 d = s.2.2.2 d := fun d hd => by
    rw [← hp1, ← hs1]
    exact ⟨cu_ne p.1 _ hd, sNw_o s hd _⟩
  have q1 : p1.1 (o + 10) = g.2.1 := by rw [← hp1]; exact cu_same _ _ _
  have c1 : s1.1 (o + 10) = (1, 4) := by rw [← hs1]; exact cu_same _ _ _
  have w10 := f1 (u + 10) (by omega)
  have w1 := f1 1 (by omega)
  obtain ⟨p2, s2, g2, e2, T2, b0, m5, q2, fb2, zz⟩ := K_X4_init (o := o) E T1.1 hE ho ho2 c1 (w1.2.1.trans h1) (fun d d1 d2 => by rw [(f1 d (by omega)).2.1]; exact hz d (by omega) d2) (Tr_rm T1 hr (by decide) (by decide))
  have T2 := Tr_tr T1 T2
  have fb : frB o p s p2 s2 := fun d hd => by
    have x := fb2 d hd
    have y := f1 d (by omega)
    exact ⟨x.1.trans y.1, x.2.1.trans y.2.1, x.2.2.1.trans y.2.2.1, x.2.2.2.1.trans y.2.2.2.1, x.2.2.2.2.trans y.2.2.2.2⟩
  have key : Ww (f_X4_copy_l14 E E.1 (p.1 (u + 10)) (p2.1 (o + 10)) (0 : Int32) (cH p2 s2 g2)) fun z => ∃ p1 s1 g1, z = (p1.1 (o + 10), cH p1 s1 g1) ∧ Tr p g p1 s1 g1 150 10000 ∧ iBk s1 o nf no ∧ lsc s1 (o + 13) (o + 14) no (fun k => o + 170 + k) ∧ bkC s s1 o u nf no mo ∧ frB o p s p1 s1 ∧ ∀ k, no ≤ k → k < 16 → (s1.1 (o + 170 + k)).1 = 0 := by
    refine cp_l14 (g := g) (mo := mo) (K := 31) (M := 3007) (P1 := p2.1 (o + 10)) E hE ho hu hou hB hm hmo hrw hro (rm_le hr (by decide) (by decide)) (a0 := (p2, (s2, g2))) ⟨Tr_w T2 (by decide) (by decide), rfl, b0.1, b0.2.1, b0.2.2.1, fun i hi => absurd hi (Nat.not_lt_zero i), fun i d _ hi hd => zz d (by omega), fun k hk => zz _ (by omega), fb⟩ (fun a ha => ?_)
    obtain ⟨T, qq, iB, li1, li2, fc, z4, zo, fba⟩ := ha
    refine cp_l65 (g := g) (mo := mo) (K := 31 + 5 * nf) (M := 3007 + 340 * nf) (P1 := p2.1 (o + 10)) E hE ho hu hou hB (rm_le hr (by omega) (by omega)) (a0 := a) ⟨T, qq, iB, li1, li2, fc, fun k hk => absurd hk (Nat.not_lt_zero k), fun k _ hk => zo k hk, fba⟩ (fun b hb => ?_)
    obtain ⟨T, qq, iB, li1, li2, fc, oc, zo, fbb⟩ := hb
    have uB : iBk b.2.1 u nf no := iBk_cg hB (fun d hd => by have x := fbb d (by omega); exact ⟨x.2.1, x.2.2.2.2⟩) hf8 h16 (by
      have x := fbb (u + 11) (by omega)
      have y := fbb (u + 12) (by omega)
      exact lst_cg hB.2.2.2.2.2.2.2.2.2.1 x.2.1 x.2.2.1 x.2.2.2.2 y.2.1 y.2.2.2.2) (by
      have x := fbb (u + 13) (by omega)
      have y := fbb (u + 14) (by omega)
      exact lst_cg hB.2.2.2.2.2.2.2.2.2.2.1 x.2.1 x.2.2.1 x.2.2.2.2 y.2.1 y.2.2.2.2) (fun i hi => iFr_cg (hB.2.2.2.2.2.2.2.2.2.2.2.2.1 i hi) (fun d hd => by have x := fbb d (by omega); exact ⟨x.2.1, x.2.2.2.2⟩)) (fun k hk => ((fbb (u + 170 + k) (by omega)).2.1).trans (hB.2.2.2.2.2.2.2.2.2.2.2.2.2.1 k hk))
    obtain ⟨s9, e9, x1, x2, x3, x4, x5, x6, x7, x8⟩ := cp_rest (p := b.1) (s := b.2.1) (g := b.2.2) E hE ho hou T.1.1 uB iB
    rw [qq, (fbb (u + 10) (by omega)).1] at e9
    refine w_of e9 ⟨b.1, s9, b.2.2, by rw [qq], Tr_w (k := 31 + 5 * nf + 2 * no) (m := 3007 + 340 * nf + 203 * no) ⟨Kp_t T.1 x1 x2, T.2⟩ (by omega) (by omega), ?_, ?_, ⟨fun i hi => ?_, fun k hk => ?_, fun c hc => ?_, fun f x hf hx => ?_, fun k hk => ?_, ?_⟩, fun d hd => ?_, fun k hk1 hk2 => ?_⟩
    · refine iBk_cg iB (fun d _ => ⟨by rw [x1], by rw [x2]⟩) hf8 h16 (lst_cg li1.1 (by rw [x1]) (x3 _ (by omega) (by omega)) (by rw [x2]) (by rw [x1]) (by rw [x2])) (lst_cg li2.1 (by rw [x1]) (x3 _ (by omega) (by omega)) (by rw [x2]) (by rw [x1]) (by rw [x2])) (fun i hi => iFr_cg (iB.2.2.2.2.2.2.2.2.2.2.2.2.1 i hi) (fun d _ => ⟨by rw [x1], by rw [x2]⟩)) (fun k hk => by rw [x1]; exact iB.2.2.2.2.2.2.2.2.2.2.2.2.2.1 k hk)
    · exact lsc_cg li2 ⟨by rw [x1], x3 _ (by omega) (by omega), by rw [x2]⟩ ⟨by rw [x1], by rw [x2]⟩
    · exact frC_cg (fc i hi) (fun d hd => ⟨x3 d (by omega) (by omega), x6 d (by omega) (by omega), by rw [x2]⟩)
    · obtain ⟨y1, y2, y3⟩ := oc k hk
      exact ⟨(congrFun (x3 _ (by omega) (by omega)) 0).trans y1, (congrFun (x3 _ (by omega) (by omega)) 1).trans y2, (congrFun (x6 _ (by omega) (by omega)) 2).trans y3⟩
    · rw [x5 c hc, (fbb (u + 16) (by omega)).2.2.1]
    · rw [x7 f x hf hx, (fbb (u + 190 + f) (by omega)).2.2.2.1]
    · rw [x8 k hk, (fbb (u + 20) (by omega)).2.2.2.1]
    · rw [x4, if_pos rfl, (fbb (u + 10) (by omega)).2.2.1]
    · have x := fbb d hd
      exact ⟨x.1, by rw [x1]; exact x.2.1, by rw [x3 d (by omega) (by omega)]; exact x.2.2.1, by rw [x6 d (by omega) (by omega)]; exact x.2.2.2.1, by rw [x2]; exact x.2.2.2.2⟩
    · rw [x1]; exact zo k hk1 hk2
  obtain ⟨z, ez, p9, s9, g9, rfl, hz9⟩ := key
  refine ⟨p9, s9, g9, ?_, hz9⟩
  have hb6 : gR (cH p1 s1 g1) (p.1 (u + 10)) 4 6 = some (p1.1 1) := by rw [← w10.1]; exact c_gR T1.1.1 (w10.2.1.trans hB.1) rfl (by rw [w10.2.2.2.2]; exact hB.2.2.2.2.2.2.1)
  unfold f_X4_copy f_X4_copy_b0
  rw [e1, b2_some, hb6, b1_some, ← q1, e2, b2_some, ← q2]
  exact ez
end CP
