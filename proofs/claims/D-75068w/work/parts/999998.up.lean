/-! steps that make things while a text is read *(up: what the twin may change)* -/
set_option maxRecDepth 100000
def up (t t1 : twS) : Prop := (∀ y, y < 15162 → t1.1 y = t.1 y) ∧ (∀ i, i ≠ 9 → t1.2.2.1 i = t.2.2.1 i) ∧ (∀ k, k ≠ 15 → k ≠ 21 → tSc t1 k = tSc t k) ∧ t1.2.2.2.2 = t.2.2.2.2
theorem up_rfl (t : twS) : up t t := ⟨fun _ _ => rfl, fun _ _ => rfl, fun _ _ _ => rfl, rfl⟩
theorem up_st (t : twS) {y : Nat} (hy : 15162 ≤ y) (v : Int64) : up t (uSt t (va_up t.1 y v)) := ⟨fun x hx => cu_ne _ _ (by omega), fun _ _ => rfl, fun _ _ _ => rfl, rfl⟩
theorem up_tr {t t1 t2 : twS} (h : up t t1) (h1 : up t1 t2) : up t t2 := ⟨fun y hy => (h1.1 y hy).trans (h.1 y hy), fun i hi => (h1.2.1 i hi).trans (h.2.1 i hi), fun k a b => (h1.2.2.1 k a b).trans (h.2.2.1 k a b), h1.2.2.2.trans h.2.2.2⟩
section LD
variable {E : zE} {p0 : cP} {g0 : zH} {s0 : cT} {t0 : twS} {nb k m ps z kd : Nat} {p : cP} {s : cT} {g : zH} {t : twS}
theorem Ld_up (h : Ld p0 g0 s0 t0 nb k m ps z kd p s g t) {p1 : cP} {s1 : cT} {g1 : zH} {k1 m1 z1 : Nat} {t1 : twS} (T1 : Tr p g p1 s1 g1 k1 m1) (hf : ∀ d, d < nb ∨ nb + 10000 ≤ d ∨ d = nb + 400 → p1.1 d = p.1 d ∧ s1.1 d = s.1 d ∧ s1.2.1 d = s.2.1 d ∧ s1.2.2.1 d = s.2.2.1 d ∧ s1.2.2.2 d = s.2.2.2 d) (hz : z ≤ z1) (hz1 : z1 ≤ nb + 9500) (hfr : ∀ d, z1 ≤ d → d < nb + 10000 → s1.1 d = s.1 d) (hup : up t t1) : Ld p0 g0 s0 t0 nb (k + k1) (m + m1) ps z1 kd p1 s1 g1 t1 := by
  obtain ⟨T, hO, hF, ⟨L, i, hB, h9, hi, hps, hk⟩, ⟨z1', z2', z3⟩, hR⟩ := h
  obtain ⟨u1, u2, u3, u4⟩ := hup
  have B0 := hR.2.2
  have rd := hf (nb + 400) (by omega)
  have c1 := hf 1 (by omega)
  have c23 := hf 23 (by omega)
  refine ⟨Tr_tr T T1, fun d hd => ?_, ⟨fun y hy => (u1 y hy).trans (hF.1 y hy), fun i hi => (u2 i hi).trans (hF.2.1 i hi), fun k hk => (u3 k (by omega) (by omega)).trans (hF.2.2 k hk)⟩, ⟨L, i, ?_, (u3 9 (by decide) (by decide)).trans h9, hi, hps, ?_⟩, ⟨by omega, hz1, fun d d1 d2 => by rw [hfr d d1 d2]; exact z3 d (by omega) d2⟩, ⟨(congrFun rd.2.2.2.2 1).trans hR.1, (congrFun rd.2.2.2.2 2).trans hR.2.1, hR.2.2⟩⟩
  · have x := hf d (by omega)
    have y := hO d hd
    exact ⟨x.1.trans y.1, x.2.1.trans y.2.1, fun d1 => x.2.2.1.trans (y.2.2.1 d1), x.2.2.2.1.trans y.2.2.2.1, x.2.2.2.2.trans y.2.2.2.2⟩
  · obtain ⟨a1, a2, a3, a4, a5, a6, a7, a8, a9⟩ := hB
    rw [u2 7 (by decide)]
    exact ⟨rd.2.1.trans a1, (congrFun rd.2.2.2.2 8).trans a2, c1.2.1.trans a3, (congrFun c1.2.2.2.2 6).trans a4, c23.2.1.trans a5, fun j hj => (congrFun c23.2.2.1 j).trans (a6 j hj), (congrFun rd.2.2.1 0).trans a7, a8, a9⟩
  · obtain ⟨a1, a2, a3, ⟨st, a4, a5, a6⟩, a7, a8, a9, a10⟩ := hk
    refine ⟨a1, (congrFun rd.2.2.1 3).trans a2, (u3 10 (by decide) (by decide)).trans a3, ⟨st, a4, (congrFun rd.2.2.1 4).trans a5, (u3 14 (by decide) (by decide)).trans a6⟩, (congrFun rd.2.2.1 5).trans a7, (u3 13 (by decide) (by decide)).trans a8, fun q => ?_, fun q => ?_⟩
    · obtain ⟨n, b1, b2, b3⟩ := a9 q
      exact ⟨n, b1, (congrFun rd.2.2.1 6).trans b2, u4.trans b3⟩
    · obtain ⟨d, a, b1, b2, b3, b4, b5⟩ := a10 q
      exact ⟨d, a, b1, b2, u4.trans b3, (congrFun rd.2.2.2.2 7).trans b4, StrH_mono (rv0_Tr T1) b5⟩
/-- a new object under the next free code -/
theorem Ld_new (h : Ld p0 g0 s0 t0 nb k m ps z kd p s g t) (hr : rm g0 20000 220000) (hq : bq nb k m z) (hnb : nb + 10000 ≤ XT) (ci n : Nat) {fs : List Value} (hn : n ≤ 100) (hf : fs = dft ci) : ∃ p1 s1 g1, nO (cH p s g) ci n fs = some (g.2.1, cH p1 s1 g1) ∧ Ld p0 g0 s0 t0 nb (k + 1) (m + n) ps (z + 1) kd p1 s1 g1 t ∧ Kq nb z p s g t p1 s1 g1 t ∧ p1.1 z = g.2.1 ∧ s1.1 z = (1, ci) ∧ s1.2.1 z = (fun _ => 0) ∧ s1.2.2.1 z = (fun _ => 0) ∧ s1.2.2.2 z = fun _ => none := by
  obtain ⟨q1, q2, q3⟩ := hq
  have T := h.1
  obtain ⟨z1, z2, z3⟩ := h.2.2.2.2.1
  obtain ⟨e1, T1⟩ := Tr_new (fs := fs) (Tr_0 T.1) (Tr_rm T hr (k1 := 1) (m1 := n) (by omega) (by omega)) z ci n (by omega) (by omega) (z3 z (Nat.le_refl _) (by omega)) (by omega) hf
  have f1 : ∀ d, d ≠ z → (pA p z g.2.1).1 d = p.1 d ∧ (sNw s z (1, ci)).1 d = s.1 d ∧ (sNw s z (1, ci)).2.1 d = s.2.1 d ∧ (sNw s z (1, ci)).2.2.1 d = s.2.2.1 d ∧ (sNw s z (1, ci)).2.2.2 d = s.2.2.2 d := fun d hd => ⟨cu_ne p.1 _ hd, sNw_o s hd _⟩
  have T1' := Tr_w T1 (show 0 + 1 ≤ 1 by omega) (show 0 + n ≤ n by omega)
  have L1 := Ld_up h T1' (z1 := z + 1) (t1 := t) (fun d hd => f1 d (by omega)) (by omega) (by omega) (fun d d1 d2 => (f1 d (by omega)).2.1) (up_rfl t)
  obtain ⟨w1, w2, w3, w4⟩ := sNw_s s z (1, ci)
  exact ⟨_, _, _, e1, L1, ⟨fun d _ d2 => f1 d (by omega), (f1 _ (by omega)).1, svw_mono (rv0_Tr T1'), rfl, rfl, rfl⟩, cu_same _ _ _, w1, w2, w3, w4⟩
/-- a token that ends a statement -/
theorem L_semi (hE : 20000 ≤ E.1) (h : Ld p0 g0 s0 t0 nb k m ps z kd p s g t) (hr : rm g0 20000 220000) (hq : bq nb k m z) (hnb : nb + 10000 ≤ XT) : (∃ p1 s1 g1 t1 ps1 kd1, kd = 3 ∧ f_X7_scan E (p.1 (nb + 400)) (cH p s g) = some ((), cH p1 s1 g1) ∧ t_X6_readEnd E t = some (1, t1) ∧ Ld p0 g0 s0 t0 nb (k + 4) (m + 28) ps1 (z + 2) kd1 p1 s1 g1 t1 ∧ ps < ps1 ∧ ps1 ≤ 1501 ∧ Kq nb z p s g t p1 s1 g1 t1) ∨ kd ≠ 3 ∧ ∃ a H t1, f_X7_require E (p.1 (nb + 400)) 0 1 (cH p s g) = some (.inr (7, a), H) ∧ t_X6_readEnd E t = some (0, t1) ∧ Fa p0 g0 s0 t0 nb H a t1 := by
  obtain ⟨c1, c2, c3, c4, c5, -⟩ := Ld_kd h
  unfold t_X6_readEnd t_X6_readEnd_b0
  rw [c3]
  by_cases w : kd = 3
  · obtain ⟨p1, s1, g1, t1, ps1, kd1, a1, a2, a3, a4, a5, a6, -⟩ := L_s0 hE h hr hq hnb (by omega)
    exact Or.inl ⟨p1, s1, g1, t1, ps1, kd1, w, a1, by rw [if_pos (by rw [w]; rfl), a2, b2_some], a3, a4, a5, a6⟩
  · have e : ¬ Int32.ofNat kd = (3 : Int32) := fun q => w ((kd_eq c4 (by decide)).mp q)
    obtain ⟨a, H, t1, f1, f2, f3, -⟩ := L_fail (E := E) h hr (by have := hq.1; omega) (by have := hq.2.1; omega) hnb h.2.2.1 c5 (c := 1) (by decide)
    exact Or.inr ⟨w, a, H, t1, f1, by rw [if_neg e, f2, b2_some, zgd0, b1_some], f3⟩
end LD
