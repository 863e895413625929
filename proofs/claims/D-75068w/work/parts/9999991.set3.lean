/-! settings: the rest; all of them *(printed)* -/
set_option maxRecDepth 100000
section LS
variable {E : zE} {p0 : cP} {g0 : zH} {s0 : cT} {t0 : twS} {nb k m ps z kd : Nat} {p : cP} {s : cT} {g : zH} {t : twS} {c7 c8 c9 np nf no cnt : Nat} {nt na : Nat → Nat} {nm : Nat → List Nat}
theorem c100 {n : Nat} (h : n < 1000000) : (100 : Int64) * (Int32.ofNat n).toInt64 = Int64.ofNat (100 * n) ∧ (Int32.ofNat n).toInt64 * (100 : Int64) = Int64.ofNat (100 * n) := by
  rw [i32_64 (by omega), show (100 : Int64) = Int64.ofNat 100 from rfl, ← Int64.ofNat_mul, ← Int64.ofNat_mul, Nat.mul_comm n 100]
  exact ⟨rfl, rfl⟩
theorem L_long {α : Type} (hE : 20000 ≤ E.1) (h : Ld p0 g0 s0 t0 nb k m ps z kd p s g t) (hM : Mk nb z c7 c8 c9 np nf no cnt nt na nm s (rv0 p g) (dr t)) (hr : rm g0 20000 220000) (hq : bq nb (k + 10) (m + 100) (z + 10)) (hnb : nb + 10000 ≤ XT) {j y : Nat} {hi : Int32} (hj : j = 5 ∧ y = 5 ∧ hi = 9999 ∨ j = 6 ∧ y = 8 ∧ hi = 9999) {F : zH → Option ((α ⊕ (Nat × Nat)) × zH)} {x : Int32} (hx : x = Int32.ofNat (15162 + y)) : (∃ p1 s1 g1 t1 ps1 kd1, ((gR (cH p s g) (p.1 (nb + 400)) 6 1).bind fun x1 => (cko (cH p s g) (p.1 (nb + 400)) 6).bind fun _ => bnd2 (f_X7_number E (p.1 (nb + 400)) (0 : Int32) hi (cH p s g)) fun x9 h7 => Sum.elim (fun x10 => ((pF h7 x1 2 j (.long ((100 : Int64) * (x10.toInt64)))).bind fun h15 => F h15)) (fun q11 => (some (.inr q11, h7))) x9) = F (cH p1 s1 g1) ∧ t_X6_readInto E x (0 : Int32) hi (100 : Int64) t = some (1, t1) ∧ Ld p0 g0 s0 t0 nb (k + 4) (m + 28) ps1 (z + 2) kd1 p1 s1 g1 t1 ∧ Mk nb (z + 2) c7 c8 c9 np nf no cnt nt na nm s1 (rv0 p1 g1) (dr t1) ∧ ps < ps1 ∧ ps1 ≤ 1501 ∧ p1.1 (nb + 400) = p.1 (nb + 400)) ∨ ∃ a H t1, ((gR (cH p s g) (p.1 (nb + 400)) 6 1).bind fun x1 => (cko (cH p s g) (p.1 (nb + 400)) 6).bind fun _ => bnd2 (f_X7_number E (p.1 (nb + 400)) (0 : Int32) hi (cH p s g)) fun x9 h7 => Sum.elim (fun x10 => ((pF h7 x1 2 j (.long ((100 : Int64) * (x10.toInt64)))).bind fun h15 => F h15)) (fun q11 => (some (.inr q11, h7))) x9) = some (.inr (7, a), H) ∧ t_X6_readInto E x (0 : Int32) hi (100 : Int64) t = some (0, t1) ∧ Fa p0 g0 s0 t0 nb H a t1 := by
  obtain ⟨q1, q2, q3⟩ := hq
  have q : bq nb k m z := ⟨by omega, by omega, by omega⟩
  have hrd := (Ld_kd h).1
  have r1 : gR (cH p s g) (p.1 (nb + 400)) 6 1 = some (p.1 (nb + 202)) := c_gR h.1.1.1 hrd rfl h.2.2.2.2.2.1
  have zb := h.2.2.2.2.1
  have n400 := h.2.2.2.2.2.2.2
  have ck1 := c_cko (g := g) h.1.1.1 hrd
  rw [r1, b1_some, ck1, b1_some]
  have hy : y < 5054 := by clear hx; omega
  have hj4 : 5 ≤ j ∧ j ≤ 8 := by clear hx; omega
  rcases L_num (E := E) hE h hr q hnb 0 hi with ⟨n, p2, s2, g2, t2, ps2, kd2, b1, b2, b3, b4, b5, h2, b6, b7, K2, b8⟩ | ⟨a, H, t1, b1, b2, b3⟩
  · have M2 := Mk_Kq hM zb.1 K2 (show z ≤ z + 2 by omega)
    have k2 := K2.1 (nb + 202) (by omega) (by omega)
    have s202 : s2.1 (nb + 202) = (1, 2) := M2.2.1.1.1
    have hj' : j = 5 ∧ y = 5 ∧ hi.toInt = 9999 ∨ j = 6 ∧ y = 8 ∧ hi.toInt = 9999 := by
      rcases hj with ⟨a, b, c⟩ | ⟨a, b, c⟩
      · exact Or.inl ⟨a, b, by rw [c]; decide⟩
      · exact Or.inr ⟨a, b, by rw [c]; decide⟩
    obtain ⟨e3, T3⟩ := Tr_L (Tr_0 h2.1.1) (nb + 202) 2 j (a := p.1 (nb + 202)) (v := Int64.ofNat (100 * n)) s202 (by rcases hj with ⟨rfl, -⟩ | ⟨rfl, -⟩ <;> rfl) k2.1
    have M3 := Mk_long (q := j) (y := y) (n := n) M2 ⟨by omega, by omega⟩ (by clear hx; omega) (by clear hx; omega)
    have L3 := Ld_up h2 (Tr_w T3 (Nat.zero_le 0) (Nat.zero_le 0)) (z1 := z + 2) (t1 := uSt t2 (va_up t2.1 (15162 + y) (Int64.ofNat (100 * n)))) (fun d hd => ⟨rfl, rfl, rfl, uL_row _ (by omega) _ _, rfl⟩) (by omega) (by omega) (fun d d1 d2 => rfl) (up_st t2 (by omega) _)
    refine Or.inl ⟨p2, _, g2, _, ps2, kd2, ?_, ?_, L3, ?_, b6, b7, K2.2.1⟩
    · rw [b4, b2_some, el_l, (c100 b1).1, e3, b1_some]
    · rw [y_into (y := y) hy b5 b8 hx, (c100 b1).2]
    · rw [dr_up]
      exact M3
  · exact Or.inr ⟨a, H, t1, by rw [b1, b2_some, el_r], y_into0 b2, b3⟩
theorem L_int {α : Type} (hE : 20000 ≤ E.1) (h : Ld p0 g0 s0 t0 nb k m ps z kd p s g t) (hM : Mk nb z c7 c8 c9 np nf no cnt nt na nm s (rv0 p g) (dr t)) (hr : rm g0 20000 220000) (hq : bq nb (k + 10) (m + 100) (z + 10)) (hnb : nb + 10000 ≤ XT) {j y : Nat} {hi : Int32} (hj : j = 7 ∧ y = 9 ∧ hi = 12 ∨ j = 8 ∧ y = 10 ∧ hi = 999) {F : zH → Option ((α ⊕ (Nat × Nat)) × zH)} {x : Int32} (hx : x = Int32.ofNat (15162 + y)) : (∃ p1 s1 g1 t1 ps1 kd1, ((gR (cH p s g) (p.1 (nb + 400)) 6 1).bind fun x1 => (cko (cH p s g) (p.1 (nb + 400)) 6).bind fun _ => bnd2 (f_X7_number E (p.1 (nb + 400)) (0 : Int32) hi (cH p s g)) fun x9 h7 => Sum.elim (fun x10 => ((pF h7 x1 2 j (.int x10)).bind fun h15 => F h15)) (fun q11 => (some (.inr q11, h7))) x9) = F (cH p1 s1 g1) ∧ t_X6_readInto E x (0 : Int32) hi (1 : Int64) t = some (1, t1) ∧ Ld p0 g0 s0 t0 nb (k + 4) (m + 28) ps1 (z + 2) kd1 p1 s1 g1 t1 ∧ Mk nb (z + 2) c7 c8 c9 np nf no cnt nt na nm s1 (rv0 p1 g1) (dr t1) ∧ ps < ps1 ∧ ps1 ≤ 1501 ∧ p1.1 (nb + 400) = p.1 (nb + 400)) ∨ ∃ a H t1, ((gR (cH p s g) (p.1 (nb + 400)) 6 1).bind fun x1 => (cko (cH p s g) (p.1 (nb + 400)) 6).bind fun _ => bnd2 (f_X7_number E (p.1 (nb + 400)) (0 : Int32) hi (cH p s g)) fun x9 h7 => Sum.elim (fun x10 => ((pF h7 x1 2 j (.int x10)).bind fun h15 => F h15)) (fun q11 => (some (.inr q11, h7))) x9) = some (.inr (7, a), H) ∧ t_X6_readInto E x (0 : Int32) hi (1 : Int64) t = some (0, t1) ∧ Fa p0 g0 s0 t0 nb H a t1 := by
  obtain ⟨q1, q2, q3⟩ := hq
  have q : bq nb k m z := ⟨by omega, by omega, by omega⟩
  have hrd := (Ld_kd h).1
  have r1 : gR (cH p s g) (p.1 (nb + 400)) 6 1 = some (p.1 (nb + 202)) := c_gR h.1.1.1 hrd rfl h.2.2.2.2.2.1
  have zb := h.2.2.2.2.1
  have n400 := h.2.2.2.2.2.2.2
  have ck1 := c_cko (g := g) h.1.1.1 hrd
  rw [r1, b1_some, ck1, b1_some]
  have hy : y < 5054 := by clear hx; omega
  have hj4 : 5 ≤ j ∧ j ≤ 8 := by clear hx; omega
  rcases L_num (E := E) hE h hr q hnb 0 hi with ⟨n, p2, s2, g2, t2, ps2, kd2, b1, b2, b3, b4, b5, h2, b6, b7, K2, b8⟩ | ⟨a, H, t1, b1, b2, b3⟩
  · have M2 := Mk_Kq hM zb.1 K2 (show z ≤ z + 2 by omega)
    have k2 := K2.1 (nb + 202) (by omega) (by omega)
    have s202 : s2.1 (nb + 202) = (1, 2) := M2.2.1.1.1
    have hj' : j = 7 ∧ y = 9 ∧ hi.toInt = 12 ∨ j = 8 ∧ y = 10 ∧ hi.toInt = 999 := by
      rcases hj with ⟨a, b, c⟩ | ⟨a, b, c⟩
      · exact Or.inl ⟨a, b, by rw [c]; decide⟩
      · exact Or.inr ⟨a, b, by rw [c]; decide⟩
    obtain ⟨e3, T3⟩ := Tr_I (Tr_0 h2.1.1) (nb + 202) 2 j (a := p.1 (nb + 202)) (v := Int32.ofNat n) s202 (by rcases hj with ⟨rfl, -⟩ | ⟨rfl, -⟩ <;> rfl) k2.1
    have M3 := Mk_int (q := j) (y := y) (n := n) M2 ⟨by omega, by omega⟩ hj' b3
    have L3 := Ld_up h2 (Tr_w T3 (Nat.zero_le 0) (Nat.zero_le 0)) (z1 := z + 2) (t1 := uSt t2 (va_up t2.1 (15162 + y) (Int64.ofNat n))) (fun d hd => ⟨rfl, rfl, uI_row _ (by omega) _ _, rfl, rfl⟩) (by omega) (by omega) (fun d d1 d2 => rfl) (up_st t2 (by omega) _)
    refine Or.inl ⟨p2, _, g2, _, ps2, kd2, ?_, ?_, L3, ?_, b6, b7, K2.2.1⟩
    · rw [b4, b2_some, el_l, e3, b1_some]
    · rw [y_into (y := y) hy b5 b8 hx, Int64.mul_one, i32_64 (by omega)]
    · rw [dr_up]
      exact M3
  · exact Or.inr ⟨a, H, t1, by rw [b1, b2_some, el_r], y_into0 b2, b3⟩
end LS
