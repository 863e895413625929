/-! closing a month, walked: the first loop makes rows -/
set_option maxRecDepth 100000
section CM
variable {N : iN} {s9 : cT} {g9 : zH}
theorem cs_close_l4 (E : zE) {r : Unit} (hN : N.1 + 200 ≤ XT) : ∀ (n : Nat) {p : cP} {s : cT} {g : zH} (h : iH p s g N) (hx : px p) {p1 : Int64} {p3 : Int32}, c_close_l4 E N n p1 p3 s g = some (r, (s9, g9)) → ∃ q, (f_X4_close_l4 E n (p.1 (N.1 + 10)) p1 p3 (cH p s g) = some (r, cH (p.1, q) s9 g9) ∧ iH (p.1, q) s9 g9 N) ∧ ∀ a, a < g.2.1 → q a = p.2 a := by
  intro n
  induction n with
  | zero =>
    intro p s g h hx p1 p3 hf
    cases hf
  | succ n ih =>
    intro p s g h hx p1 p3 hf
    unfold c_close_l4 at hf
    unfold f_X4_close_l4
    by_cases c1 : (Int32.ofNat N.2.1) ≤ p3
    · have hf := zif_t c1 hf
      refine ⟨p.2, ?_, fun _ _ => rfl⟩
      refine kb1 (a_Bk_R0 h) ?_
      refine kb1 (a_FL_ck h) ?_
      refine kbc (a_FL_n h E) ?_
      refine kif_t c1 ?_
      exact cs_close_l53 E E.1 h hf
    · have hf := zif_f c1 hf
      obtain ⟨i, ei, hf⟩ := zbind hf
      have hi := cGet_lt ei
      obtain ⟨v, z, e1, hf⟩ := zbind2 hf
      obtain ⟨e1, h2, hv⟩ := cs_X4_statement E h e1
      obtain ⟨f, ef, hf⟩ := zbind hf
      have hg := lRow_spec ef
      by_cases c2 : ¬ (s.2.1 (N.1 + 10) 5 < 0 ∨ 60 ≤ (s.2.1 (N.1 + 10) 5).toNatClampNeg) ∧ (g.2.1 ≤ v ∧ v < z.2.2.1)
      · have hf := zif_t c2 hf
        obtain ⟨k1, k2⟩ := iH_adL h2 hx hN hv c2.2.2 hg
        have k3 := iH_uR k2 (j := (s.2.1 (N.1 + 10) 5).toNatClampNeg) (e := some (XT + v)) hi
        obtain ⟨q, hq, hq2⟩ := ih (p := (p.1, va_up p.2 v (some (XT + v)))) k3 hx hf
        refine ⟨q, ?_, fun a ha => (hq2 a (by have := c2.2; omega)).trans (cu_ne p.2 _ (by have := c2.2; omega))⟩
        refine kb1 (a_Bk_R0 h) ?_
        refine kb1 (a_FL_ck h) ?_
        refine kbc (a_FL_n h E) ?_
        refine kif_f c1 ?_
        refine kb1 (a_Bk_R0 h) ?_
        refine kb1 (a_FL_ck h) ?_
        refine kbc (a_FL_G h E ei) ?_
        refine kb1 (a_Fr_ck h hi) ?_
        refine kb1 (a_Fr_R1 h hi) ?_
        refine kb1 (a_Bk_I5 h) ?_
        refine kb1 (a_Bk_ck h) ?_
        refine kbc e1 ?_
        have hsA := c_sA (g := z.2) k2.1 (c := N.1 + 150 + i) (e := XT + v) (n := 60) (m := 7) (j := s.2.1 (N.1 + 10) 5) ((k2.2.2.2.1.2.2.2.2.2.2.2.2.2.2.2.2.1 i hi).2.2.2.2.2.1) (cu_same _ _ _) c2.1
        rw [k1] at hsA
        rw [show (p.1, va_up p.2 v (some (XT + v))).1 (XT + v) = v from hx v] at hsA
        refine kb1 hsA ?_
        exact hq
      · have hf := zif_f c2 hf
        cases hf
theorem cs_X1_closeMonth (E : zE) {p : cP} {s : cT} {g : zH} {r : Int32 ⊕ (Nat × Nat)} (hN : N.1 + 200 ≤ XT) (h : iH p s g N) (hx : px p) (hg : ∀ r s9 g9, c_X1_requireMonth E N s g = some (r, (s9, g9)) → g.2.1 ≤ g9.2.1) (hf : c_X1_closeMonth E N s g = some (r, (s9, g9))) : ∃ q, (f_X1_closeMonth E (p.1 1) (cH p s g) = some (r, cH (p.1, q) s9 g9) ∧ iH (p.1, q) s9 g9 N) ∧ ∀ a, a < g.2.1 → q a = p.2 a := by
  unfold c_X1_closeMonth at hf
  unfold f_X1_closeMonth f_X1_closeMonth_b0
  obtain ⟨x, z, e1, hf⟩ := zbind2 hf
  have hz := hg x z.1 z.2 e1
  obtain ⟨e1, h1⟩ := cs_X1_requireMonth E h e1
  cases x with
  | inr y =>
    cases hf
    refine ⟨p.2, ?_, fun _ _ => rfl⟩
    refine kb1 (a_X_ck h) ?_
    refine kbc e1 ?_
    exact ⟨rfl, h1⟩
  | inl y =>
    obtain ⟨x2, z2, e2, hf⟩ := zbind2 (show bnd2 (c_close_l4 E N E.1 (0 : Int64) (0 : Int32) z.1 z.2) (fun _ z2 => some (.inl (z2.1.2.1 (N.1 + 10) 5), (z2.1, z2.2))) = some (r, (s9, g9)) from hf)
    obtain ⟨q, hq, hq2⟩ := cs_close_l4 E hN E.1 h1 hx e2
    refine ⟨q, ?_, fun a ha => hq2 a (by omega)⟩
    refine kb1 (a_X_ck h) ?_
    refine kbc e1 ?_
    refine kel0_l ?_
    refine kb1 (a_X_R1 h1) ?_
    refine kb1 (a_Bk_ck h1) ?_
    refine kbc (a := x2) (b := cH (p.1, q) z2.1 z2.2) hq.1 ?_
    refine kb1 (a_X_R1 (p := (p.1, q)) hq.2) ?_
    refine kb1 (a_Bk_I5 (p := (p.1, q)) hq.2) ?_
    cases hf
    exact ⟨rfl, hq.2⟩
def c_X0_closeMonth (E : zE) (N : iN) (a : Nat) (s : cT) (g : zH) : Option (Int32 × (cT × zH)) :=
  bnd2 (c_X1_closeMonth E N s g) fun x z => Sum.elim (fun v => (sL z.2 a (0 : Int32) (v.toInt64)).bind fun g1 => some ((0 : Int32), (z.1, g1))) (fun q => if q.1 = 22 then some ((1 : Int32), (z.1, z.2)) else none) x
theorem cs_X0_closeMonth (E : zE) {p : cP} {s : cT} {g : zH} {a : Nat} {r : Int32} (hN : N.1 + 200 ≤ XT) (h : iH p s g N) (hx : px p) (hg : ∀ r s9 g9, c_X1_requireMonth E N s g = some (r, (s9, g9)) → g.2.1 ≤ g9.2.1) (ha : p.2 a = none) (hl : a < g.2.1) (hf : c_X0_closeMonth E N a s g = some (r, (s9, g9))) : ∃ q, (f_X0_closeMonth E (p.1 1) a (cH p s g) = some (r, cH (p.1, q) s9 g9) ∧ iH (p.1, q) s9 g9 N) ∧ ∀ b, b < g.2.1 → q b = p.2 b := by
  unfold c_X0_closeMonth at hf
  unfold f_X0_closeMonth f_X0_closeMonth_b0
  obtain ⟨x, z, e1, hf⟩ := zbind2 hf
  obtain ⟨q, hq, hq2⟩ := cs_X1_closeMonth E hN h hx hg e1
  refine ⟨q, ?_, hq2⟩
  refine kb1 (a_X_ck h) ?_
  refine kbc (a := x) (b := cH (p.1, q) z.1 z.2) hq.1 ?_
  cases x with
  | inl v =>
    refine kel0_l ?_
    obtain ⟨g1, e2, hf⟩ := zbind (show (sL z.2 a (0 : Int32) (v.toInt64)).bind (fun g1 => some ((0 : Int32), (z.1, g1))) = some (r, (s9, g9)) from hf)
    have e3 := r_sL (p := (p.1, q)) (s := z.1) (g := z.2) (a := a) ((hq2 a hl).trans ha) (0 : Int32) v.toInt64
    rw [e2] at e3
    refine kb1 e3 ?_
    cases hf
    refine ⟨rfl, iH_g hq.2 ?_⟩
    have e5 : g9.2 = z.2.2 := by
      unfold sL at e2
      split at e2
      · obtain ⟨_, e6⟩ := z_ite e2
        rw [← e6]
        rfl
      · cases e2
    rw [e5]
    exact Nat.le_refl _
  | inr y =>
    refine kel0_r ?_
    have hf : (if y.1 = 22 then some ((1 : Int32), (z.1, z.2)) else none) = some (r, (s9, g9)) := hf
    by_cases c1 : y.1 = 22
    · have hf := zif_t c1 hf
      refine kif_t c1 ?_
      cases hf
      exact ⟨rfl, hq.2⟩
    · have hf := zif_f c1 hf
      cases hf
end CM
