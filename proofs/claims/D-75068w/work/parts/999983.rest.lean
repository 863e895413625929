/-! the world behind restoreSnapshot -/
set_option maxRecDepth 100000
theorem iRu_cg {s s1 : cT} {np : Nat} {nt : Nat → Nat} (h : iRu s np nt) (hS : ∀ c, c < 200 → c ≠ 1 → c ≠ 21 → s1.1 c = s.1 c ∧ s1.2.1 c = s.2.1 c ∧ s1.2.2.2 c = s.2.2.2 c) : iRu s1 np nt := by
  obtain ⟨a1, a2, a3, a4, a5, a6, a7, a8, a9, a10, a11, a12⟩ := h
  have S : ∀ c, c < 200 → c ≠ 1 → c ≠ 21 → s1.1 c = s.1 c := fun c h1 h2 h3 => (hS c h1 h2 h3).1
  have I : ∀ c, c < 200 → c ≠ 1 → c ≠ 21 → s1.2.1 c = s.2.1 c := fun c h1 h2 h3 => (hS c h1 h2 h3).2.1
  have R : ∀ c, c < 200 → c ≠ 1 → c ≠ 21 → s1.2.2.2 c = s.2.2.2 c := fun c h1 h2 h3 => (hS c h1 h2 h3).2.2
  have R2 : ∀ c k, c < 200 → c ≠ 1 → c ≠ 21 → s1.2.2.2 c k = s.2.2.2 c k := fun c k h1 h2 h3 => congrFun (R c h1 h2 h3) k
  refine ⟨(S _ (by omega) (by omega) (by omega)).trans a1, (R2 _ _ (by omega) (by omega) (by omega)).trans a2, (R2 _ _ (by omega) (by omega) (by omega)).trans a3, (R2 _ _ (by omega) (by omega) (by omega)).trans a4, (R2 _ _ (by omega) (by omega) (by omega)).trans a5, (R2 _ _ (by omega) (by omega) (by omega)).trans a6, (S _ (by omega) (by omega) (by omega)).trans a7, (S _ (by omega) (by omega) (by omega)).trans a8, (S _ (by omega) (by omega) (by omega)).trans a9, a10, lst_cg a11 (S _ (by omega) (by omega) (by omega)) (I _ (by omega) (by omega) (by omega)) (R _ (by omega) (by omega) (by omega)) (S _ (by omega) (by omega) (by omega)) (R _ (by omega) (by omega) (by omega)), fun i hi => ?_⟩
  obtain ⟨b1, b2, b3, b4, b5, b6, b7⟩ := a12 i hi
  exact ⟨(S _ (by omega) (by omega) (by omega)).trans b1, (R2 _ _ (by omega) (by omega) (by omega)).trans b2, (R2 _ _ (by omega) (by omega) (by omega)).trans b3, (S _ (by omega) (by omega) (by omega)).trans b4, b5, lst_cg b6 (S _ (by omega) (by omega) (by omega)) (I _ (by omega) (by omega) (by omega)) (R _ (by omega) (by omega) (by omega)) (S _ (by omega) (by omega) (by omega)) (R _ (by omega) (by omega) (by omega)), fun j hj => (S _ (by omega) (by omega) (by omega)).trans (b7 j hj)⟩
section WO
variable {X : cT → (Nat → Option zC) → twS → Prop} {E : zE} {q x a c n : Nat} {H : zH} {t : twS} {p : cP} {s : cT} {N : iN} {mo nb : Nat}
theorem W_restore (hX : stb X) (hE : 20000 ≤ E.1) (h : Wo X q x a (c + 50) n H t p s N mo nb) (k : Int32) : ∃ r H1 t1, f_X1_restoreSnapshot E x k H = some (r, H1) ∧ t_X6_restoreSnapshot E k t = some (r, t1) ∧ ∃ p1 s1 N1 mo1 nb1, Wo X q x a c (n + 1) H1 t1 p1 s1 N1 mo1 nb1 := by
  have i2 : ((0 : Int64) ≤ k.toInt64 ∧ k.toInt64 ≤ 1) ↔ inF k 2 := inF_r (n := 2) (by decide) (by decide)
  unfold f_X1_restoreSnapshot f_X1_restoreSnapshot_b0 f_X1_restoreSnapshot_b19 t_X6_restoreSnapshot t_X6_restoreSnapshot_b0 t_X6_restoreSnapshot_b24
  rw [b_inRange, b2_some, y_inRange, b2_some]
  by_cases hk : (0 : Int64) ≤ k.toInt64 ∧ k.toInt64 ≤ 1
  · rw [if_pos hk, if_neg (by decide), if_neg (by decide)]
    obtain ⟨ek, hj⟩ := inF_nat (i2.mp hk)
    generalize k.toNatClampNeg = j at ek hj
    subst ek
    have hw := h
    obtain ⟨⟨w1, w2, w3, w4⟩, ⟨w5, w6, w7, w8, w9⟩, ⟨w10, w11, w12, w13, w14⟩, ⟨w15, w16, w17, w18, w19⟩, ⟨w20, w21⟩, w22, w23⟩ := h
    have iX := w3.2.2.1
    have h2 := w3.2.2.2.2.2
    have XTv : XT = 1000000 := rfl
    have hnj : ¬ (Int32.ofNat j < 0 ∨ 2 ≤ (Int32.ofNat j).toNatClampNeg) := by rw [nat_clamp (by omega)]; exact fun q => q.elim (i32_nneg (by omega)) (by omega)
    have r1 : gR H x 0 2 = some (p.1 21) := by rw [← w2, ← w4]; exact c_gR w1.1 iX.1 rfl iX.2.2.2.1
    have r2 : dQ H (p.1 21) 6 (Int32.ofNat j) = some ((s.2.2.2 21 j).map p.1) := by
      rw [← w2, c_dQ w1.1 (t := 6) (n := 2) iX.2.2.2.2.2.2.2.2.1 (Or.inr (Or.inr rfl)) hnj, nat_clamp (by omega)]
    rw [r1, b1_some, r2, b1_some, ys_d hj, b1_some]
    rcases w22 j hj with ⟨h1, h3⟩ | ⟨h1, u, no, mu, h3, h4, h5, h6, h7, h8, h9, h10, h11⟩
    · have h1 : (uSc t 2 (0 : Int32)).2.2.1 2 j = 0 := h1
      rw [h3, h1, b1_some, if_pos rfl]
      exact ⟨0, H, uSc t 2 0, rfl, rfl, p, s, N, mo, nb, Wo_le (k := 49) (Wo_thr hX (c := c + 49) hw 0)⟩
    · have h1 : (uSc t 2 (0 : Int32)).2.2.1 2 j = 1 := h1
      obtain ⟨p1, s1, g1, e1, T1, b1, m1, rb, rx, fr, zo⟩ := Wo_cpy hE hw h7 h5 h8 h9 h10.1.1
      have f1 := fr 1 (Or.inl (by omega))
      have r3 : dR H (p.1 21) 6 (Int32.ofNat j) = some (p.1 (u + 10)) := by
        unfold dR
        rw [r2, h3]
        rfl
      have r4 : cko H (p.1 (u + 10)) 4 = some () := by rw [← w2]; exact c_cko w1.1 h7.1
      have e2 := c_pR (p := p1) (s := s1) (g := g1) (c := 1) (d := nb + 10) (k := 1) T1.1.1 (f1.2.1.trans iX.1) rfl
      rw [f1.1, w4] at e2
      generalize hs2 : uR s1 1 1 (some (nb + 10)) = s2 at e2
      have S2 : s2.1 = s1.1 := by rw [← hs2]; rfl
      have I2 : s2.2.1 = s1.2.1 := by rw [← hs2]; rfl
      have L2 : s2.2.2.1 = s1.2.2.1 := by rw [← hs2]; rfl
      have R2 : ∀ d i, ¬ (d = 1 ∧ i = 1) → s2.2.2.2 d i = s1.2.2.2 d i := fun d i hd => by rw [← hs2, uR_ne _ _ (by omega)]
      have R2j : s2.2.2.2 1 1 = some (nb + 10) := by rw [← hs2, uR_s]
      have R2f : ∀ d, d ≠ 1 → s2.2.2.2 d = s1.2.2.2 d := fun d hd => funext fun i => R2 d i (by omega)
      have K2 : Kp p1 s2 g1 := by
        rw [← hs2]
        exact Kp_uR T1.1 (by omega) 1 (fun e he => by
          cases he
          rw [b1.1]
          exact ⟨Or.inl (Nat.succ_ne_zero _), fun z => absurd z (by decide)⟩)
      have G2 : ∀ d, d < nb + 10 ∨ nb + 200 ≤ d → s2.1 d = s.1 d ∧ s2.2.1 d = s.2.1 d ∧ s2.2.2.1 d = s.2.2.1 d := fun d hd => by
        have k := fr d hd
        exact ⟨by rw [S2]; exact k.2.1, by rw [I2]; exact k.2.2.1, by rw [L2]; exact k.2.2.2.1⟩
      have F2 : ∀ d, d < nb + 10 ∨ nb + 200 ≤ d → d ≠ 1 → s2.1 d = s.1 d ∧ s2.2.1 d = s.2.1 d ∧ s2.2.2.1 d = s.2.2.1 d ∧ s2.2.2.2 d = s.2.2.2 d := fun d hd h21 => by
        have k := G2 d hd
        exact ⟨k.1, k.2.1, k.2.2, (R2f d h21).trans (fr d hd).2.2.2.2⟩
      have X1 : ∀ i, i ≠ 1 → s2.2.2.2 1 i = s.2.2.2 1 i := fun i hi => (R2 1 i (by omega)).trans (congrFun f1.2.2.2.2 i)
      have lo : ∀ y, y < 5054 → blk t.1 (1 + j) 0 y = t.1 (5054 * (1 + j) + y) := fun y hy => by
        unfold blk
        rw [if_pos (by omega), show 5054 * (1 + j) + (y - 5054 * 0) = 5054 * (1 + j) + y by omega]
      have hi5 : ∀ y, 5054 ≤ y → blk t.1 (1 + j) 0 y = t.1 y := fun y hy => by
        unfold blk
        rw [if_neg (by omega)]
      have cst : ∀ y, y = 1 ∨ 4 ≤ y ∧ y ≤ 10 ∨ 14 ≤ y ∧ y < 58 ∨ (∃ i, i < 8 ∧ y = 58 + 16 * i) → blk t.1 (1 + j) 0 y = t.1 y := fun y hy => by
        rw [lo y (by rcases hy with hy | hy | hy | ⟨i, hi, hy⟩ <;> omega)]
        exact h11 y hy
      have raw : ∀ b, b < H.2.1 → p.2 b = none → p1.2 b = none ∧ (cH p1 s2 g1).1 b = H.1 b := fun b hb hn => by
        have k := T1.2.1 b hb hn
        exact ⟨k.1, by rw [cH_raw k.1]; exact k.2⟩
      have key := bk_keep (s := s1) (s1 := s2) (t1 := blk t.1 (1 + j) 0) (fun d d1 d2 => ⟨by rw [S2], by rw [I2], by rw [L2], R2f d (by omega)⟩) (fun e he hs => ⟨by rw [S2]; exact hs, by rw [L2]⟩) b1 rx rb lo h10.1.1
      rw [h1, b1_some, if_neg (by decide)]
      refine ⟨1, cH p1 s2 g1, uSt (uSc t 2 0) (blk t.1 (1 + j) 0), ?_, ?_, p1, s2, (nb, (N.2.1, (no, N.2.2.2))), mu, nb + 200, ⟨Kp_g K2 (Nat.le_refl _), cH_idem _ _ _, ⟨K2.1, K2.2.1, ?_, key.1, ?_, (show 200 ≤ nb by omega)⟩, f1.1.trans w4⟩, ⟨key.2.2, IV_all h10 lo (Nat.le_succ n), RR_cg w7 w6.1.2.2.2 (fun d hd _ => (G2 d (Or.inl (by omega))).2) (fun y hy => cst y (by omega)), IR_cg w8 w6.1.2.2.2 (fun y hy => cst y (by omega)), key.2.1⟩, ⟨Nat.le_refl _, by omega, fun d d1 d2 => ?_, by omega, ?_⟩, ⟨(raw a w16.1 w15).1, ⟨?_, ?_⟩, fun b d1 d2 => (raw b (by omega) (w17 b d1 d2)).1, ?_, w19⟩, ⟨fun i i1 i2 => ?_, ?_⟩, fun i hi => ?_, ?_⟩
      · rw [h3]
        show (dR H (p.1 21) 6 (Int32.ofNat j)).bind (fun x13 => (cko H x13 4).bind fun _ => bnd2 (f_X4_copy E x13 H) fun x18 h16 => (pF h16 x 0 1 (.ref x18)).bind fun h19 => some ((1 : Int32), h19)) = _
        rw [r3, b1_some, r4, b1_some, e1, b2_some, e2, b1_some]
      · have e9 : t_X6_copyBlock E (Int32.ofNat (1 + j)) (0 : Int32) (uSc t 2 0) = some ((), uSt (uSc t 2 0) (blk t.1 (1 + j) 0)) := y_copyB (E := E) (t := uSc t 2 0) hE (i := 1 + j) (j := 0) (by omega) (by decide) (by omega)
        rw [show (1 : Int32) + Int32.ofNat j = Int32.ofNat (1 + j) from (Int32.ofNat_add 1 j).symm, e9, b2_some]
      · obtain ⟨x1, x2, x3, x4, x5, x6, x7, x8, x9, x10, x11⟩ := iX
        exact ⟨(G2 1 (Or.inl (by omega))).1.trans x1, (X1 0 (by decide)).trans x2, R2j, (X1 2 (by decide)).trans x4, (X1 3 (by decide)).trans x5, (X1 4 (by decide)).trans x6, (X1 5 (by decide)).trans x7, (X1 6 (by decide)).trans x8, (G2 21 (Or.inl (by omega))).1.trans x9, (G2 22 (Or.inl (by omega))).1.trans x10, (G2 23 (Or.inl (by omega))).1.trans x11⟩
      · exact iRu_cg w3.2.2.2.2.1 (fun d d1 d2 _ => by have k := F2 d (Or.inl (by omega)) d2; exact ⟨k.1, k.2.1, k.2.2.2⟩)
      · rw [(G2 d (Or.inr (by omega))).1]; exact w12 d (by omega) d2
      · have := w14.1; have := w14.2; have := T1.2.2.2.1; have := T1.2.2.2.2
        exact ⟨show 400 * c ≤ g1.2.2.1 by omega, show 4400 * c ≤ g1.2.2.2 by omega⟩
      · have := T1.2.2.1; have := w16.1; show a < g1.2.1; omega
      · obtain ⟨f, hf⟩ := w16.2
        exact ⟨f, (raw a w16.1 w15).2.trans hf⟩
      · have := T1.2.2.1; show q + 10 ≤ g1.2.1; omega
      · show (s2.1 (nb + 170 + i)).1 = 0
        rw [S2]; exact zo i i1 i2
      · show ∃ m, s2.1 (nb + 14) = (6, m) ∧ 1 ≤ m ∧ m ≤ 2 * no + 2
        rw [S2]; exact m1
      · exact Sn_keep hi (w22 i hi) ⟨rfl, rfl⟩ ((R2 21 i (by omega)).trans (congrFun (fr 21 (Or.inl (by omega))).2.2.2.2 i)) (fun u u1 u2 u3 => ⟨Or.inl u2, fun d d1 d2 => F2 d (Or.inl (by omega)) (by omega)⟩) (fun e he hs => by have k := G2 e (Or.inr (by omega)); exact ⟨k.1.trans hs, k.2.2⟩) (by omega) (Nat.le_succ n) rfl (fun y y1 y2 => hi5 y (by omega)) cst
      · refine hX s s2 _ _ t _ (fun d d1 d2 d3 => ?_) (rvw_le T1.2.2.1 (fun b hb hn _ _ => raw b hb hn)) (fun i hi => cu_ne _ _ hi) (fun i hi => rfl) (fun i hi => cst _ (Or.inr (Or.inr (Or.inr ⟨i, hi, rfl⟩)))) w23
        have k := G2 d (Or.inl (by omega))
        exact ⟨k.1, k.2.1, k.2.2, fun d4 => (F2 d (Or.inl (by omega)) d4).2.2.2⟩
  · rw [if_neg hk, if_pos rfl, if_pos rfl]
    exact ⟨0, H, uSc t 2 0, rfl, rfl, p, s, N, mo, nb, Wo_le (k := 49) (Wo_thr hX (c := c + 49) h 0)⟩
end WO
