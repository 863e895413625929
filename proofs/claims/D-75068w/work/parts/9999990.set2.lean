/-! settings: numbers; the steps *(hi: the most)* -/
set_option maxRecDepth 100000
section CG
variable {nb z c7 c8 c9 np nf no cnt : Nat} {nt na : Nat → Nat} {nm : Nat → List Nat} {s s1 : cT} {v v1 : Nat → Option zC} {T T1 : Nat → Int64}
/-- only numbers of the rules were written -/
theorem Mk_num (h : Mk nb z c7 c8 c9 np nf no cnt nt na nm s v T) (hnb : 500 ≤ z ∧ nb + 500 ≤ z) (h0 : s1.1 = s.1) (hR2 : s1.2.2.2 = s.2.2.2) (hI : ∀ d, d ≠ nb + 202 → s1.2.1 d = s.2.1 d) (hLo : ∀ d, d ≠ nb + 202 → s1.2.2.1 d = s.2.2.1 d) (h9 : s1.2.1 (nb + 202) 9 = s.2.1 (nb + 202) 9) (hT : ∀ y, y ≠ 5 → y ≠ 8 → y ≠ 9 → y ≠ 10 → T1 y = T y) (t5 : T1 5 = s1.2.2.1 (nb + 202) 5) (t8 : T1 8 = s1.2.2.1 (nb + 202) 6) (t9 : T1 9 = (s1.2.1 (nb + 202) 7).toInt64) (t10 : T1 10 = (s1.2.1 (nb + 202) 8).toInt64) (b5 : btw (T1 5) 0 999900) (b8 : btw (T1 8) 0 999900) (b9 : btw (T1 9) 0 12) (b10 : btw (T1 10) 0 999) : Mk nb z c7 c8 c9 np nf no cnt nt na nm s1 v T1 := by
  obtain ⟨hB, hR, hN, hcn, k7, k8, k9, k10⟩ := h
  have hR' := hR
  obtain ⟨⟨a1, a2, a3, a4, a5, a6, a7, a8, a9, a10, -⟩, ⟨⟨-, b2', -, b4', b5', -, -, -⟩, -⟩, ⟨i1, -, i3, i4, -, -, -, -⟩, -⟩ := hR
  have n7 : c7 ≠ nb + 202 := by clear k8 k9; omega
  have n8 : c8 ≠ nb + 202 := by clear k7 k9; omega
  have n9 : c9 ≠ nb + 202 := by clear k7 k8; omega
  have oth : ∀ d, d ≠ nb + 202 → s1.1 d = s.1 d ∧ s1.2.1 d = s.2.1 d ∧ s1.2.2.1 d = s.2.2.1 d ∧ s1.2.2.2 d = s.2.2.2 d := fun d hd => ⟨by rw [h0], hI d hd, hLo d hd, by rw [hR2]⟩
  have R : ∀ q, s1.2.2.2 (nb + 202) q = s.2.2.2 (nb + 202) q := fun q => by rw [hR2]
  have s5 := oth (nb + 205) (by clear k7 k8 k9; omega)
  have s6 := oth (nb + 206) (by clear k7 k8 k9; omega)
  refine ⟨MkB_cg hB (Nat.le_refl _) hB.2.2.1.1.2.2.2 (fun d d1 d2 => oth d (by clear k7 k8 k9; omega)) (fun x _ x2 => hT x (by clear k7 k8 k9; omega) (by clear k7 k8 k9; omega) (by clear k7 k8 k9; omega) (by clear k7 k8 k9; omega)), MkR_set hR' (fun d d1 d2 => oth d (by clear k7 k8 k9; omega)) (by rw [h0]) (R 0) (R 1) ((R 2).trans a4) ((R 3).trans a5) ((R 4).trans a6) (by rw [h0]; exact a7) (by rw [h0]; exact a8) (by rw [h0]; exact a9) (fun x hx => hT x (by clear k7 k8 k9; omega) (by clear k7 k8 k9; omega) (by clear k7 k8 k9; omega) (by clear k7 k8 k9; omega)) (by rw [hT 4 (by decide) (by decide) (by decide) (by decide), hI _ n7]; exact b2') t5 (by rw [hT 6 (by decide) (by decide) (by decide) (by decide), hI _ n8]; exact b4') (by rw [hT 7 (by decide) (by decide) (by decide) (by decide), hI _ n9]; exact b5') t8 t9 t10 (by rw [hT 4 (by decide) (by decide) (by decide) (by decide)]; exact i1) b5 (by rw [hT 6 (by decide) (by decide) (by decide) (by decide)]; exact i3) (by rw [hT 7 (by decide) (by decide) (by decide) (by decide)]; exact i4) b8 b9 b10, MkN_cg hN ⟨by rw [h0], R 1⟩ ⟨s5.1, s5.2.1, s5.2.2.2⟩ ⟨s6.1, s6.2.2.2⟩ (svw_rfl _) (hT 2 (by decide) (by decide) (by decide) (by decide)) (fun i _ => hT _ (by clear k7 k8 k9; omega) (by clear k7 k8 k9; omega) (by clear k7 k8 k9; omega) (by clear k7 k8 k9; omega)), h9.trans hcn, k7, k8, k9, k10⟩
theorem Mk_long (h : Mk nb z c7 c8 c9 np nf no cnt nt na nm s v T) (hnb : 500 ≤ z ∧ nb + 500 ≤ z) {q y n : Nat} (hj : q = 5 ∧ y = 5 ∨ q = 6 ∧ y = 8) (hn : n ≤ 9999) : Mk nb z c7 c8 c9 np nf no cnt nt na nm (uL s (nb + 202) q (Int64.ofNat (100 * n))) v (va_up T y (Int64.ofNat (100 * n))) := by
  have hR := h.2.1
  obtain ⟨-, ⟨⟨-, -, r5, -, -, r8, r9, r10⟩, -⟩, ⟨-, i5, -, -, i8, i9, i10, -⟩, -⟩ := hR
  have bn : btw (Int64.ofNat (100 * n)) 0 999900 := btw_n (by omega) (by omega)
  refine Mk_num h hnb rfl rfl (fun _ _ => rfl) (fun d hd => uL_row _ hd _ _) rfl (fun x x5 x8 _ _ => cu_ne _ _ (by omega)) ?_ ?_ ?_ ?_ ?_ ?_ ?_ ?_
  · rcases hj with ⟨rfl, rfl⟩ | ⟨rfl, rfl⟩
    · rw [uL_s]; exact cu_same _ _ _
    · rw [uL_ne _ _ (Or.inr (by decide)), cu_ne _ _ (by decide)]; exact r5
  · rcases hj with ⟨rfl, rfl⟩ | ⟨rfl, rfl⟩
    · rw [uL_ne _ _ (Or.inr (by decide)), cu_ne _ _ (by decide)]; exact r8
    · rw [uL_s]; exact cu_same _ _ _
  · rw [cu_ne _ _ (by omega)]; exact r9
  · rw [cu_ne _ _ (by omega)]; exact r10
  · rcases hj with ⟨rfl, rfl⟩ | ⟨rfl, rfl⟩
    · rw [cu_same]; exact bn
    · rw [cu_ne _ _ (by decide)]; exact i5
  · rcases hj with ⟨rfl, rfl⟩ | ⟨rfl, rfl⟩
    · rw [cu_ne _ _ (by decide)]; exact i8
    · rw [cu_same]; exact bn
  · rw [cu_ne _ _ (by omega)]; exact i9
  · rw [cu_ne _ _ (by omega)]; exact i10
theorem Mk_int (h : Mk nb z c7 c8 c9 np nf no cnt nt na nm s v T) (hnb : 500 ≤ z ∧ nb + 500 ≤ z) {q y n : Nat} {hi : Int} (hj : q = 7 ∧ y = 9 ∧ hi = 12 ∨ q = 8 ∧ y = 10 ∧ hi = 999) (hn : (n : Int) ≤ hi) : Mk nb z c7 c8 c9 np nf no cnt nt na nm (uI s (nb + 202) q (Int32.ofNat n)) v (va_up T y (Int64.ofNat n)) := by
  have hR := h.2.1
  obtain ⟨-, ⟨⟨-, -, r5, -, -, r8, r9, r10⟩, -⟩, ⟨-, i5, -, -, i8, i9, i10, -⟩, -⟩ := hR
  have bn : btw (Int64.ofNat n) 0 hi := btw_n hn (by omega)
  have e : (Int32.ofNat n).toInt64 = Int64.ofNat n := i32_64 (by omega)
  refine Mk_num h hnb rfl rfl (fun d hd => uI_row _ hd _ _) (fun _ _ => rfl) (uI_ne _ _ (Or.inr (by omega))) (fun x _ _ x9 x10 => cu_ne _ _ (by omega)) ?_ ?_ ?_ ?_ ?_ ?_ ?_ ?_
  · rw [cu_ne _ _ (by omega)]; exact r5
  · rw [cu_ne _ _ (by omega)]; exact r8
  · rcases hj with ⟨rfl, rfl, rfl⟩ | ⟨rfl, rfl, rfl⟩
    · rw [uI_s, e]; exact cu_same _ _ _
    · rw [uI_ne _ _ (Or.inr (by decide)), cu_ne _ _ (by decide)]; exact r9
  · rcases hj with ⟨rfl, rfl, rfl⟩ | ⟨rfl, rfl, rfl⟩
    · rw [uI_ne _ _ (Or.inr (by decide)), cu_ne _ _ (by decide)]; exact r10
    · rw [uI_s, e]; exact cu_same _ _ _
  · rw [cu_ne _ _ (by omega)]; exact i5
  · rw [cu_ne _ _ (by omega)]; exact i8
  · rcases hj with ⟨rfl, rfl, rfl⟩ | ⟨rfl, rfl, rfl⟩
    · rw [cu_same]; exact bn
    · rw [cu_ne _ _ (by decide)]; exact i9
  · rcases hj with ⟨rfl, rfl, rfl⟩ | ⟨rfl, rfl, rfl⟩
    · rw [cu_ne _ _ (by decide)]; exact i10
    · rw [cu_same]; exact bn
end CG
theorem dr_up (t : twS) (y : Nat) (v : Int64) : dr (uSt t (va_up t.1 (15162 + y) v)) = va_up (dr t) y v := by
  funext x
  show va_up t.1 (15162 + y) v (15162 + x) = va_up (fun y => t.1 (15162 + y)) y v x
  unfold va_up
  by_cases q : x = y
  · rw [if_pos q, if_pos (by omega)]
  · rw [if_neg q, if_neg (by omega)]
section LS
variable {E : zE} {p0 : cP} {g0 : zH} {s0 : cT} {t0 : twS} {nb k m ps z kd : Nat} {p : cP} {s : cT} {g : zH} {t : twS} {c7 c8 c9 np nf no cnt : Nat} {nt na : Nat → Nat} {nm : Nat → List Nat}
/-- the twin's number goes to its place -/
theorem y_into {lo hi : Int32} {y n : Nat} {unit : Int64} {t1 : twS} (hy : y < 5054) (h : t_X6_readNumber E lo hi t = some ((1 : Int32), t1)) (h15 : tSc t1 15 = Int32.ofNat n) {x : Int32} (hx : x = Int32.ofNat (15162 + y)) : t_X6_readInto E x lo hi unit t = some ((1 : Int32), uSt t1 (va_up t1.1 (15162 + y) ((Int32.ofNat n).toInt64 * unit))) := by
  unfold t_X6_readInto t_X6_readInto_b0
  rw [h, b2_some, if_neg (by decide), h15, hx, y_s (by omega), b1_some]
theorem y_into0 {lo hi x : Int32} {unit : Int64} {t1 : twS} (h : t_X6_readNumber E lo hi t = some (0, t1)) : t_X6_readInto E x lo hi unit t = some (0, t1) := by
  unfold t_X6_readInto t_X6_readInto_b0
  rw [h, b2_some, if_pos rfl]
/-- a setting that is a rate -/
theorem L_rate {α : Type} (hE : 20000 ≤ E.1) (h : Ld p0 g0 s0 t0 nb k m ps z kd p s g t) (hM : Mk nb z c7 c8 c9 np nf no cnt nt na nm s (rv0 p g) (dr t)) (hr : rm g0 20000 220000) (hq : bq nb (k + 10) (m + 100) (z + 10)) (hnb : nb + 10000 ≤ XT) {j y : Nat} {hi : Int32} (hj : j = 2 ∧ y = 4 ∧ hi = 5000 ∨ j = 3 ∧ y = 6 ∧ hi = 500 ∨ j = 4 ∧ y = 7 ∧ hi = 2000) {F : zH → Option ((α ⊕ (Nat × Nat)) × zH)} {x : Int32} (hx : x = Int32.ofNat (15162 + y)) : (∃ p1 s1 g1 t1 ps1 kd1 e7 e8 e9, ((gR (cH p s g) (p.1 (nb + 400)) 6 1).bind fun x1 => bnd2 (nO (cH p s g) 3 1 [.int 0]) fun q3 h4 => (cko h4 (p.1 (nb + 400)) 6).bind fun _ => bnd2 (f_X7_number E (p.1 (nb + 400)) (0 : Int32) hi h4) fun x9 h7 => Sum.elim (fun x10 => (bnd2 (f_X3_init E q3 x10 h7) fun x14 h12 => (pF h12 x1 2 j (.ref q3)).bind fun h15 => F h15)) (fun q11 => (some (.inr q11, h7))) x9) = F (cH p1 s1 g1) ∧ t_X6_readInto E x (0 : Int32) hi (1 : Int64) t = some (1, t1) ∧ Ld p0 g0 s0 t0 nb (k + 5) (m + 29) ps1 (z + 3) kd1 p1 s1 g1 t1 ∧ Mk nb (z + 3) e7 e8 e9 np nf no cnt nt na nm s1 (rv0 p1 g1) (dr t1) ∧ ps < ps1 ∧ ps1 ≤ 1501 ∧ p1.1 (nb + 400) = p.1 (nb + 400)) ∨ ∃ a H t1, ((gR (cH p s g) (p.1 (nb + 400)) 6 1).bind fun x1 => bnd2 (nO (cH p s g) 3 1 [.int 0]) fun q3 h4 => (cko h4 (p.1 (nb + 400)) 6).bind fun _ => bnd2 (f_X7_number E (p.1 (nb + 400)) (0 : Int32) hi h4) fun x9 h7 => Sum.elim (fun x10 => (bnd2 (f_X3_init E q3 x10 h7) fun x14 h12 => (pF h12 x1 2 j (.ref q3)).bind fun h15 => F h15)) (fun q11 => (some (.inr q11, h7))) x9) = some (.inr (7, a), H) ∧ t_X6_readInto E x (0 : Int32) hi (1 : Int64) t = some (0, t1) ∧ Fa p0 g0 s0 t0 nb H a t1 := by
  obtain ⟨q1, q2, q3⟩ := hq
  have q : bq nb k m z := ⟨by omega, by omega, by omega⟩
  have hrd := (Ld_kd h).1
  have r1 : gR (cH p s g) (p.1 (nb + 400)) 6 1 = some (p.1 (nb + 202)) := c_gR h.1.1.1 hrd rfl h.2.2.2.2.2.1
  have zb := h.2.2.2.2.1
  have n400 := h.2.2.2.2.2.2.2
  obtain ⟨p1, s1, g1, e1, h1, K1, w1, w2, w3, w4, w5⟩ := Ld_new h hr q hnb 3 1 (fs := [.int 0]) (by decide) rfl
  have M1 := Mk_Kq hM zb.1 K1 (Nat.le_succ z)
  have rd1 := K1.2.1
  have ck1 : cko (cH p1 s1 g1) (p.1 (nb + 400)) 6 = some () := by rw [← rd1]; exact c_cko h1.1.1.1 (Ld_kd h1).1
  rw [r1, b1_some, e1, b2_some, ck1, b1_some, ← rd1]
  have hy : y = 4 ∨ y = 6 ∨ y = 7 := by clear hx; omega
  rcases L_num (E := E) hE h1 hr ⟨by omega, by omega, by omega⟩ hnb 0 hi with ⟨n, p2, s2, g2, t2, ps2, kd2, b1, b2, b3, b4, b5, h2, b6, b7, K2, b8⟩ | ⟨a, H, t1, b1, b2, b3⟩
  · have M2 := Mk_Kq M1 (by omega) K2 (show z + 1 ≤ z + 1 + 2 by omega)
    have kz := K2.1 z (by omega) (by omega)
    have k2 := K2.1 (nb + 202) (by omega) (by omega)
    have k1 := K1.1 (nb + 202) (by omega) (by omega)
    have sz : s2.1 z = (1, 3) := kz.2.1.trans w2
    have pz : p2.1 z = g.2.1 := kz.1.trans w1
    obtain ⟨e3, T3⟩ := Tr_I (Tr_0 h2.1.1) z 3 0 (a := g.2.1) (v := Int32.ofNat n) sz rfl pz
    have s202 : s2.1 (nb + 202) = (1, 2) := M2.2.1.1.1
    obtain ⟨e4, T4⟩ := Tr_R T3 (nb + 202) 2 j z (a := p.1 (nb + 202)) (b := g.2.1) s202 (by rcases hj with ⟨rfl, -⟩ | ⟨rfl, -⟩ | ⟨rfl, -⟩ <;> rfl) (by omega) (k2.1.trans k1.1) pz (Or.inl (by rw [uI_S, sz]; exact Nat.succ_ne_zero _)) (fun q6 => absurd q6 (by rw [uI_S, sz]; exact (show ¬ (1 : Nat) = 6 by decide)))
    have hi' : (hi = 5000 ∧ hi.toInt = 5000) ∨ (hi = 500 ∧ hi.toInt = 500) ∨ (hi = 2000 ∧ hi.toInt = 2000) := by
      rcases hj with ⟨_, _, rfl⟩ | ⟨_, _, rfl⟩ | ⟨_, _, rfl⟩
      · exact Or.inl ⟨rfl, by decide⟩
      · exact Or.inr (Or.inl ⟨rfl, by decide⟩)
      · exact Or.inr (Or.inr ⟨rfl, by decide⟩)
    have hj' : j = 2 ∧ y = 4 ∧ hi.toInt = 5000 ∨ j = 3 ∧ y = 6 ∧ hi.toInt = 500 ∨ j = 4 ∧ y = 7 ∧ hi.toInt = 2000 := by
      rcases hj with ⟨a, b, c⟩ | ⟨a, b, c⟩ | ⟨a, b, c⟩
      · exact Or.inl ⟨a, b, by rw [c]; decide⟩
      · exact Or.inr (Or.inl ⟨a, b, by rw [c]; decide⟩)
      · exact Or.inr (Or.inr ⟨a, b, by rw [c]; decide⟩)
    obtain ⟨e7, e8, e9, M3⟩ := Mk_rate (z1 := z + 3) (Mk_Kq hM zb.1 (Kq_tr K1 K2 (Nat.le_succ z)) (Nat.le_refl z)) ⟨by omega, zb.1⟩ hj' b3 (by omega) sz
    have T4' := Tr_w T4 (Nat.zero_le 0) (Nat.zero_le 0)
    have hn1 : (Int32.ofNat n).toInt64 * (1 : Int64) = Int64.ofNat n := by rw [Int64.mul_one, i32_64 (by omega)]
    have L4 := Ld_up h2 T4' (z1 := z + 3) (t1 := uSt t2 (va_up t2.1 (15162 + y) (Int64.ofNat n))) (fun d hd => ⟨rfl, rfl, by rw [uR_I, uI_row _ (by omega)], rfl, by funext q; rw [uR_ne _ _ (Or.inl (by omega))]; rfl⟩) (by omega) (by omega) (fun d d1 d2 => rfl) (up_st t2 (by omega) _)
    refine Or.inl ⟨p2, _, g2, _, ps2, kd2, e7, e8, e9, ?_, ?_, L4, ?_, b6, b7, K2.2.1⟩
    · unfold f_X3_init f_X3_init_b0 f_J17_init_X3 f_J17_init_X3_b0
      rw [b4, b2_some, el_l, b2_some, e3, b1_some, b2_some, e4, b1_some]
    · rw [y_into (y := y) (by omega) b5 b8 hx, hn1]
    · rw [dr_up]
      exact M3
  · exact Or.inr ⟨a, H, t1, by rw [b1, b2_some, el_r], y_into0 b2, b3⟩
end LS
