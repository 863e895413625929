/-! the world behind saveSnapshot, restoreSnapshot -/
set_option maxRecDepth 100000
section TW
variable {t : twS}
theorem ys_s {j : Nat} (hj : j < 2) (v : Int32) : tsI t 2 3 (Int32.ofNat j) v = some (uAr t 2 (va_up (t.2.2.1 2) j v)) := by
  show (if 3 = 3 ∧ ¬ (Int32.ofNat j < 0 ∨ 2 ≤ (Int32.ofNat j).toNatClampNeg) then some (uAr t 2 (va_up (t.2.2.1 2) (Int32.ofNat j).toNatClampNeg v)) else none) = _
  rw [nat_clamp (by omega), if_pos ⟨rfl, fun h => h.elim (i32_nneg (by omega)) (by omega)⟩]
theorem ys_d {j : Nat} (hj : j < 2) : tdI t 2 3 (Int32.ofNat j) = some (t.2.2.1 2 j) := by
  show (if 3 = 3 ∧ ¬ (Int32.ofNat j < 0 ∨ 2 ≤ (Int32.ofNat j).toNatClampNeg) then some (t.2.2.1 2 (Int32.ofNat j).toNatClampNeg) else none) = _
  rw [nat_clamp (by omega), if_pos ⟨rfl, fun h => h.elim (i32_nneg (by omega)) (by omega)⟩]
end TW
section WO
variable {X : cT → (Nat → Option zC) → twS → Prop} {E : zE} {q x a c n : Nat} {H : zH} {t : twS} {p : cP} {s : cT} {N : iN} {mo nb : Nat}
theorem Wo_thr (hX : stb X) (h : Wo X q x a (c + 1) n H t p s N mo nb) (v : Int32) : Wo X q x a c (n + 1) H (uSc t 2 v) p s N mo nb := by
  have hH := h.1.2.2.1
  have e := h.1.2.1
  have k := Wo_op hX h (s1 := s) (t1 := uSc t 2 v) (g1 := H) ⟨h.2.1.1, IV_n h.2.1.2.1 (Nat.le_succ n), okS_rfl N s, okT_thr (okT_rfl t) v, Nat.le_refl _, fun _ _ _ => rfl, h.2.2.2.1.2.1, Nat.le_add_right _ _, Nat.le_add_right _ _⟩ hH
  rw [e] at k
  exact k
/-- books are copied to a new block *(the rest of the world stays)* -/
theorem Wo_cpy (hE : 20000 ≤ E.1) (h : Wo X q x a (c + 50) n H t p s N mo nb) {u no mu : Nat} {tu : Nat → Int64} (hb : iBk s u N.2.1 no) (hu : u + 200 ≤ nb) (hx : rX s u N.2.1 mu) (hB : RB s u N.2.1 no mu tu) (hm : mu ≤ 60) : ∃ p1 s1 g1, f_X4_copy E (p.1 (u + 10)) H = some (p1.1 (nb + 10), cH p1 s1 g1) ∧ Tr p H p1 s1 g1 150 10000 ∧ iBk s1 nb N.2.1 no ∧ (∃ m, s1.1 (nb + 14) = (6, m) ∧ 1 ≤ m ∧ m ≤ 2 * no + 2) ∧ RB s1 nb N.2.1 no mu tu ∧ rX s1 nb N.2.1 mu ∧ frB nb p s p1 s1 ∧ ∀ k, no ≤ k → k < 16 → (s1.1 (nb + 170 + k)).1 = 0 := by
  obtain ⟨⟨w1, w2, w3, w4⟩, -, ⟨w10, w11, w12, w13, w14⟩, -⟩ := h
  have h2 := w3.2.2.2.2.2
  have XTv : XT = 1000000 := rfl
  obtain ⟨p1, s1, g1, e1, T1, b1, l1, c1, f1, z1⟩ := K_X4_copy (o := nb) (u := u) (mo := mu) (no := no) E w1 (by omega) (by omega) (by omega) (Or.inl hu) (by omega) w3.2.2.1.1 hb hm hB.1.2.1 (fun i m hi hm => by
    obtain ⟨e, x1, x2, x3⟩ := r_inv hB hi hm
    exact ⟨e, x1, x2⟩) (fun i m e hi hm he => Or.inr (by have := hx i m e hi hm he; omega)) (fun d d1 d2 => w12 d (by omega) (by omega)) (rm_le w14 (by omega) (by omega))
  rw [w2] at e1
  have rb := RB_copy hB c1 hx (fun e he hs => by
    have k := f1 e (Or.inr (by omega))
    exact ⟨k.2.1.trans hs, k.2.2.2.1⟩)
  obtain ⟨l2, m, m1, m2, m3⟩ := l1
  exact ⟨p1, s1, g1, e1, T1, b1, ⟨m, m1, m2, m3⟩, rb.1, rb.2, f1, z1⟩
theorem W_save (hX : stb X) (hE : 20000 ≤ E.1) (h : Wo X q x a (c + 50) n H t p s N mo nb) (k : Int32) : ∃ r H1 t1, f_X1_saveSnapshot E x k H = some (r, H1) ∧ t_X6_saveSnapshot E k t = some (r, t1) ∧ ∃ p1 s1 N1 mo1 nb1, Wo X q x a c (n + 1) H1 t1 p1 s1 N1 mo1 nb1 := by
  have i2 : ((0 : Int64) ≤ k.toInt64 ∧ k.toInt64 ≤ 1) ↔ inF k 2 := inF_r (n := 2) (by decide) (by decide)
  unfold f_X1_saveSnapshot f_X1_saveSnapshot_b0 t_X6_saveSnapshot t_X6_saveSnapshot_b0
  rw [b_inRange, b2_some, y_inRange, b2_some]
  by_cases hk : (0 : Int64) ≤ k.toInt64 ∧ k.toInt64 ≤ 1
  · rw [if_pos hk, if_neg (by decide), if_neg (by decide)]
    obtain ⟨ek, hj⟩ := inF_nat (i2.mp hk)
    generalize k.toNatClampNeg = j at ek hj
    subst ek
    have hw := h
    obtain ⟨⟨w1, w2, w3, w4⟩, ⟨w5, w6, w7, w8, w9⟩, ⟨w10, w11, w12, w13, w14⟩, ⟨w15, w16, w17, w18, w19⟩, ⟨w20, w21⟩, w22, w23⟩ := h
    have iX := w3.2.2.1
    have iB := w3.2.2.2.1
    have h2 := w3.2.2.2.2.2
    have XTv : XT = 1000000 := rfl
    obtain ⟨p1, s1, g1, e1, T1, b1, m1, rb, rx, fr, zo⟩ := Wo_cpy hE hw (u := N.1) (no := N.2.2.1) (mu := mo) (tu := t.1) iB w10 w9 w5 w6.1.1
    have f1 := fr 1 (Or.inl (by omega))
    have f21 := fr 21 (Or.inl (by omega))
    have hnj : ¬ (Int32.ofNat j < 0 ∨ 2 ≤ (Int32.ofNat j).toNatClampNeg) := by rw [nat_clamp (by omega)]; exact fun q => q.elim (i32_nneg (by omega)) (by omega)
    have e2 := c_sB (p := p1) (s := s1) (g := g1) T1.1.1 (c := 21) (e := nb + 10) (n := 2) (j := Int32.ofNat j) (f21.2.1.trans iX.2.2.2.2.2.2.2.2.1) b1.1 hnj
    rw [nat_clamp (by omega), f21.1] at e2
    have r1 : gR H x 0 2 = some (p.1 21) := by rw [← w2, ← w4]; exact c_gR w1.1 iX.1 rfl iX.2.2.2.1
    have r2 : gR H x 0 1 = some (p.1 (N.1 + 10)) := by rw [← w2, ← w4]; exact c_gR w1.1 iX.1 rfl iX.2.2.1
    have r3 : cko H (p.1 (N.1 + 10)) 4 = some () := by rw [← w2]; exact c_cko w1.1 iB.1
    generalize hs2 : uR s1 21 j (some (nb + 10)) = s2 at e2
    have S2 : s2.1 = s1.1 := by rw [← hs2]; rfl
    have I2 : s2.2.1 = s1.2.1 := by rw [← hs2]; rfl
    have L2 : s2.2.2.1 = s1.2.2.1 := by rw [← hs2]; rfl
    have R2 : ∀ d i, ¬ (d = 21 ∧ i = j) → s2.2.2.2 d i = s1.2.2.2 d i := fun d i hd => by rw [← hs2, uR_ne _ _ (by omega)]
    have R2j : s2.2.2.2 21 j = some (nb + 10) := by rw [← hs2, uR_s]
    have R2f : ∀ d, d ≠ 21 → s2.2.2.2 d = s1.2.2.2 d := fun d hd => funext fun i => R2 d i (by omega)
    have K2 : Kp p1 s2 g1 := by
      rw [← hs2]
      exact Kp_uR T1.1 (by omega) j (fun e he => by
        cases he
        rw [b1.1]
        exact ⟨Or.inl (Nat.succ_ne_zero _), fun z => absurd z (by decide)⟩)
    have F2 : ∀ d, d < nb + 10 ∨ nb + 200 ≤ d → d ≠ 21 → s2.1 d = s.1 d ∧ s2.2.1 d = s.2.1 d ∧ s2.2.2.1 d = s.2.2.1 d ∧ s2.2.2.2 d = s.2.2.2 d := fun d hd h21 => by
      have k := fr d hd
      exact ⟨by rw [S2]; exact k.2.1, by rw [I2]; exact k.2.2.1, by rw [L2]; exact k.2.2.2.1, (R2f d h21).trans k.2.2.2.2⟩
    have G2 : ∀ d, d < nb + 10 ∨ nb + 200 ≤ d → s2.1 d = s.1 d ∧ s2.2.1 d = s.2.1 d ∧ s2.2.2.1 d = s.2.2.1 d := fun d hd => by
      have k := fr d hd
      exact ⟨by rw [S2]; exact k.2.1, by rw [I2]; exact k.2.2.1, by rw [L2]; exact k.2.2.2.1⟩
    have t1e : (uAr (uSt (uSc t 2 0) (blk t.1 0 (1 + j))) 2 (va_up (t.2.2.1 2) j 1)).1 = blk t.1 0 (1 + j) := rfl
    have lo : ∀ y, y < 5054 → blk t.1 0 (1 + j) y = t.1 y := fun y hy => blk_lo (by omega) hy
    have cst : ∀ y, y = 1 ∨ 4 ≤ y ∧ y ≤ 10 ∨ 14 ≤ y ∧ y < 58 ∨ (∃ i, i < 8 ∧ y = 58 + 16 * i) → y < 5054 := fun y hy => by
      rcases hy with hy | hy | hy | ⟨i, hi, hy⟩ <;> omega
    have in1 : ∀ y, y < 5054 → blk t.1 0 (1 + j) (5054 * (1 + j) + y) = t.1 y := fun y hy => by
      unfold blk
      rw [if_pos (by omega), show 5054 * 0 + (5054 * (1 + j) + y - 5054 * (1 + j)) = y by omega]
    have raw : ∀ b, b < H.2.1 → p.2 b = none → p1.2 b = none ∧ (cH p1 s2 g1).1 b = H.1 b := fun b hb hn => by
      have k := T1.2.1 b hb hn
      exact ⟨k.1, by rw [cH_raw k.1]; exact k.2⟩
    refine ⟨1, cH p1 s2 g1, uAr (uSt (uSc t 2 0) (blk t.1 0 (1 + j))) 2 (va_up (t.2.2.1 2) j 1), ?_, ?_, p1, s2, N, mo, nb + 200, ⟨Kp_g K2 (Nat.le_refl _), cH_idem _ _ _, ?_, f1.1.trans w4⟩, ?_, ⟨by omega, by omega, fun d d1 d2 => ?_, by omega, ?_⟩, ⟨(raw a w16.1 w15).1, ⟨?_, ?_⟩, fun b d1 d2 => (raw b (by omega) (w17 b d1 d2)).1, ?_, w19⟩, ⟨fun i i1 i2 => ?_, ?_⟩, fun i hi => ?_, ?_⟩
    · rw [r1, b1_some, r2, b1_some, r3, b1_some, e1, b2_some, e2, b1_some]
    · have e9 : t_X6_copyBlock E (0 : Int32) (Int32.ofNat (1 + j)) (uSc t 2 0) = some ((), uSt (uSc t 2 0) (blk t.1 0 (1 + j))) := y_copyB (E := E) (t := uSc t 2 0) hE (i := 0) (j := 1 + j) (by decide) (by omega) (by omega)
      rw [show (1 : Int32) + Int32.ofNat j = Int32.ofNat (1 + j) from (Int32.ofNat_add 1 j).symm, e9, b2_some, ys_s hj, b1_some]
      rfl
    · exact iH_cg w3 K2.1 K2.2.1 (fun d hd => (G2 d (Or.inl (by omega))).1) (fun d hd => (G2 d (Or.inl (by omega))).2.1) (fun d hd h21 => (F2 d (Or.inl (by omega)) h21).2.2.2)
    · have key := bk_keep (s1 := s2) (t1 := blk t.1 0 (1 + j)) (fun d d1 d2 => F2 d (Or.inl (by omega)) (by omega)) (fun e he hs => by have k := G2 e (Or.inr (by omega)); exact ⟨k.1.trans hs, k.2.2⟩) iB w9 w5 lo w6.1.1
      exact ⟨key.2.2, IV_all w6 lo (Nat.le_succ n), RR_cg w7 w6.1.2.2.2 (fun d hd _ => (G2 d (Or.inl (by omega))).2) (fun y hy => lo y (by omega)), IR_cg w8 w6.1.2.2.2 (fun y hy => lo y (by omega)), key.2.1⟩
    · rw [(G2 d (Or.inr (by omega))).1]; exact w12 d (by omega) d2
    · have := w14.1; have := w14.2; have := T1.2.2.2.1; have := T1.2.2.2.2
      exact ⟨show 400 * c ≤ g1.2.2.1 by omega, show 4400 * c ≤ g1.2.2.2 by omega⟩
    · have := T1.2.2.1; have := w16.1; show a < g1.2.1; omega
    · obtain ⟨f, hf⟩ := w16.2
      exact ⟨f, (raw a w16.1 w15).2.trans hf⟩
    · have := T1.2.2.1; show q + 10 ≤ g1.2.1; omega
    · rw [(G2 _ (Or.inl (by omega))).1]; exact w20 i i1 i2
    · rw [(G2 _ (Or.inl (by omega))).1]; exact w21
    · by_cases e : i = j
      · subst e
        refine Or.inr ⟨?_, nb, N.2.2.1, mo, R2j, by omega, Nat.le_refl _, Or.inr w10, ?_, ?_, ?_, IV_all w6 (fun y hy => in1 y hy) (Nat.le_succ n), fun y hy => ?_⟩
        · show va_up t.2.2.1 2 (va_up (t.2.2.1 2) i 1) 2 i = 1
          rw [cu_same, cu_same]
        · refine iBk_cg b1 (fun d hd => ⟨by rw [S2], R2f d (by omega)⟩) w6.1.2.1 w6.1.2.2.1 (lst_cg b1.2.2.2.2.2.2.2.2.2.1 (by rw [S2]) (by rw [I2]) (R2f _ (by omega)) (by rw [S2]) (R2f _ (by omega))) (lst_cg b1.2.2.2.2.2.2.2.2.2.2.1 (by rw [S2]) (by rw [I2]) (R2f _ (by omega)) (by rw [S2]) (R2f _ (by omega))) (fun f hf => iFr_cg (b1.2.2.2.2.2.2.2.2.2.2.2.2.1 f hf) (fun d hd => ⟨by rw [S2], R2f d (by omega)⟩)) (fun f hf => by rw [S2]; exact b1.2.2.2.2.2.2.2.2.2.2.2.2.2.1 f hf)
        · intro f m e hf hm he
          rw [R2f _ (by omega)] at he
          exact rx f m e hf hm he
        · have k9 := (bk_keep (s := s1) (s1 := s2) (t1 := fun y => blk t.1 0 (1 + i) (5054 * (1 + i) + y)) (fun d d1 d2 => ⟨by rw [S2], by rw [I2], by rw [L2], R2f d (by omega)⟩) (fun e he hs => ⟨by rw [S2]; exact hs, by rw [L2]⟩) b1 rx rb in1 w6.1.1).2.2
          exact k9
        · exact (in1 y (cst y hy)).trans (lo y (cst y hy)).symm
      · refine Sn_keep hi (w22 i hi) ⟨rfl, rfl⟩ ((R2 21 i (by omega)).trans (congrFun f21.2.2.2.2 i)) (fun u u1 u2 u3 => ⟨u3, fun d d1 d2 => F2 d (Or.inl (by omega)) (by omega)⟩) (fun e he hs => by have k := G2 e (Or.inr (by omega)); exact ⟨k.1.trans hs, k.2.2⟩) (by omega) (Nat.le_succ n) ?_ (fun y y1 y2 => ?_) (fun y hy => lo y (cst y hy))
        · show va_up t.2.2.1 2 (va_up (t.2.2.1 2) j 1) 2 i = _
          rw [cu_same, cu_ne _ _ e]
        · show blk t.1 0 (1 + j) y = t.1 y
          unfold blk
          rw [if_neg (by omega)]
    · refine hX s s2 _ _ t _ (fun d d1 d2 d3 => ?_) (rvw_le T1.2.2.1 (fun b hb hn _ _ => raw b hb hn)) (fun i hi => cu_ne _ _ hi) (fun i hi => ?_) (fun i hi => lo _ (by omega)) w23
      · have k := F2 d (Or.inl (by omega)) d2
        exact ⟨k.1, k.2.1, k.2.2.1, fun _ => k.2.2.2⟩
      · show va_up t.2.2.1 2 _ i = _
        rw [cu_ne _ _ (by omega)]
  · rw [if_neg hk, if_pos rfl, if_pos rfl]
    exact ⟨0, H, uSc t 2 0, rfl, rfl, p, s, N, mo, nb, Wo_le (k := 49) (Wo_thr hX (c := c + 49) h 0)⟩
end WO
