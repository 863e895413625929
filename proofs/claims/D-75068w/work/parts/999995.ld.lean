/-! while a text is read *(s0, t0: as it was; nb: codes from here on are free at the start; the reader has nb + 400)* -/
set_option maxRecDepth 100000
/-- the twin keeps what matters elsewhere -/
def twF (t0 t : twS) : Prop := (∀ y, y < 15162 → t.1 y = t0.1 y) ∧ (∀ i, i ≠ 9 → t.2.2.1 i = t0.2.2.1 i) ∧ ∀ k, k < 9 ∨ k = 19 ∨ k = 20 → tSc t k = tSc t0 k
theorem twF_rfl (t : twS) : twF t t := ⟨fun _ _ => rfl, fun _ _ => rfl, fun _ _ => rfl⟩
theorem twF_Tt {t0 t t1 : twS} (h : twF t0 t) (h1 : Tt t t1) : twF t0 t1 := ⟨fun y hy => by rw [h1.1]; exact h.1 y hy, fun i hi => by rw [h1.2.2.1]; exact h.2.1 i hi, fun k hk => (h1.2.2.2 k (by omega) (by omega) (by omega)).trans (h.2.2 k hk)⟩
theorem twF_u {t0 t : twS} (h : twF t0 t) {k : Nat} (hk : ¬ (k < 9 ∨ k = 19 ∨ k = 20)) (v : Int32) : twF t0 (uSc t k v) := ⟨h.1, h.2.1, fun j hj => by rw [tSc_u, if_neg (by omega)]; exact h.2.2 j hj⟩
/-- old codes stay *(but the ledger's numbers)* -/
def frO (nb : Nat) (p0 : cP) (s0 : cT) (p : cP) (s : cT) : Prop := ∀ d, d < nb ∨ nb + 10000 ≤ d → p.1 d = p0.1 d ∧ s.1 d = s0.1 d ∧ (d ≠ 1 → s.2.1 d = s0.2.1 d) ∧ s.2.2.1 d = s0.2.2.1 d ∧ s.2.2.2 d = s0.2.2.2 d
def rdF (s : cT) (nb : Nat) : Prop := s.2.2.2 (nb + 400) 1 = some (nb + 202) ∧ s.2.2.2 (nb + 400) 2 = some (nb + 10) ∧ 400 ≤ nb
def Ld (p0 : cP) (g0 : zH) (s0 : cT) (t0 : twS) (nb k m ps z kd : Nat) (p : cP) (s : cT) (g : zH) (t : twS) : Prop := Tr p0 g0 p s g k m ∧ frO nb p0 s0 p s ∧ twF t0 t ∧ (∃ L i, BR s (nb + 400) L (t.2.2.1 7) ∧ tSc t 9 = Int32.ofNat L ∧ i ≤ L ∧ ps = i + (if kd = 0 then 1 else 0) ∧ tk g0.2.1 s t (rv0 p g) (nb + 400) i kd) ∧ (nb + 500 ≤ z ∧ z ≤ nb + 9500 ∧ ∀ d, z ≤ d → d < nb + 10000 → (s.1 d).1 = 0) ∧ rdF s nb
/-- what a step of reading keeps -/
def Kq (nb z : Nat) (p : cP) (s : cT) (g : zH) (t : twS) (p1 : cP) (s1 : cT) (g1 : zH) (t1 : twS) : Prop := (∀ d, d ≠ nb + 400 → d < z → p1.1 d = p.1 d ∧ s1.1 d = s.1 d ∧ s1.2.1 d = s.2.1 d ∧ s1.2.2.1 d = s.2.2.1 d ∧ s1.2.2.2 d = s.2.2.2 d) ∧ p1.1 (nb + 400) = p.1 (nb + 400) ∧ svw (rv0 p g) (rv0 p1 g1) ∧ t1.1 = t.1 ∧ t1.2.2.1 = t.2.2.1 ∧ tSc t1 21 = tSc t 21
theorem Kq_rfl (nb z : Nat) (p : cP) (s : cT) (g : zH) (t : twS) : Kq nb z p s g t p s g t := ⟨fun _ _ _ => ⟨rfl, rfl, rfl, rfl, rfl⟩, rfl, svw_rfl _, rfl, rfl, rfl⟩
theorem Kq_tr {nb z z1 : Nat} {p : cP} {s : cT} {g : zH} {t : twS} {p1 : cP} {s1 : cT} {g1 : zH} {t1 : twS} {p2 : cP} {s2 : cT} {g2 : zH} {t2 : twS} (h : Kq nb z p s g t p1 s1 g1 t1) (h1 : Kq nb z1 p1 s1 g1 t1 p2 s2 g2 t2) (hz : z ≤ z1) : Kq nb z p s g t p2 s2 g2 t2 := by
  refine ⟨fun d d1 d2 => ?_, h1.2.1.trans h.2.1, svw_tr h.2.2.1 h1.2.2.1, h1.2.2.2.1.trans h.2.2.2.1, h1.2.2.2.2.1.trans h.2.2.2.2.1, h1.2.2.2.2.2.trans h.2.2.2.2.2⟩
  have x := h.1 d d1 d2
  have y := h1.1 d d1 (by omega)
  exact ⟨y.1.trans x.1, y.2.1.trans x.2.1, y.2.2.1.trans x.2.2.1, y.2.2.2.1.trans x.2.2.2.1, y.2.2.2.2.trans x.2.2.2.2⟩
/-- a text that is not as it should be *(a: the error's address)* -/
def Fa (p0 : cP) (g0 : zH) (s0 : cT) (t0 : twS) (nb : Nat) (H : zH) (a : Nat) (t1 : twS) : Prop := ∃ k m z p s g, H = cH p s g ∧ a = p.1 z ∧ Tr p0 g0 p s g k m ∧ k ≤ 19000 ∧ m ≤ 219800 ∧ frO nb p0 s0 p s ∧ twF t0 t1 ∧ s.1 z = (1, 7) ∧ nb ≤ z ∧ z < nb + 10000 ∧ s.2.1 z 6 = tSc t1 11 ∧ s.2.1 z 7 = tSc t1 12 ∧ tSc t1 11 ≠ 0
/-- a reading on both sides -/
def Out {α : Type} (p0 : cP) (g0 : zH) (s0 : cT) (t0 : twS) (nb : Nat) (c : Option ((α ⊕ (Nat × Nat)) × zH)) (w : Option (Int32 × twS)) (Q : α → cP → cT → zH → twS → Prop) : Prop := (∃ x p1 s1 g1 t1, c = some (.inl x, cH p1 s1 g1) ∧ w = some (1, t1) ∧ Q x p1 s1 g1 t1) ∨ ∃ a H t1, c = some (.inr (7, a), H) ∧ w = some (0, t1) ∧ Fa p0 g0 s0 t0 nb H a t1
/-- how much was used *(k cells, m slots, at place ps)* -/
def bud (k m ps z nb : Nat) : Prop := k ≤ 300 + 6 * ps ∧ m ≤ 6000 + 140 * ps ∧ z ≤ nb + 600 + 3 * ps
def bq (nb k m z : Nat) : Prop := k ≤ 18000 ∧ m ≤ 219000 ∧ z ≤ nb + 9400
section LD
variable {E : zE} {p0 : cP} {g0 : zH} {s0 : cT} {t0 : twS} {nb k m ps z kd : Nat} {p : cP} {s : cT} {g : zH} {t : twS}
theorem Ld_ps (h : Ld p0 g0 s0 t0 nb k m ps z kd p s g t) : ps ≤ 1501 := by
  obtain ⟨-, -, -, ⟨L, i, hB, -, hi, hps, -⟩, -⟩ := h
  have := hB.2.2.2.2.2.2.2.1
  split at hps <;> omega
theorem req_t {a : Nat} {c : Int32} {h : zH} : f_X7_require E a 1 c h = some (.inl (), h) := by
  unfold f_X7_require f_X7_require_b0
  rw [if_neg (by decide)]
/-- an error is thrown -/
theorem L_fail (h : Ld p0 g0 s0 t0 nb k m ps z kd p s g t) (hr : rm g0 20000 220000) (hk : k ≤ 18900) (hm : m ≤ 219500) (hnb : nb + 10000 ≤ XT) {t2 : twS} (ht : twF t0 t2) (hst : s.2.1 (nb + 400) 4 = tSc t2 14) {c : Int32} (hc : c ≠ 0) : ∃ a H t1, f_X7_require E (p.1 (nb + 400)) 0 c (cH p s g) = some (.inr (7, a), H) ∧ t_X6_fail E c t2 = some (0, t1) ∧ Fa p0 g0 s0 t0 nb H a t1 ∧ t1 = uSc (uSc t2 11 c) 12 (tSc t2 14) := by
  obtain ⟨T, hO, hF, ⟨L, i, hB, h9, hi, hps, hk'⟩, ⟨z1, z2, z3⟩, hR⟩ := h
  have hB0 := hB.2.2.2.2.2.2.2.2
  have hzr : nb + 400 < z := by omega
  obtain ⟨e1, T1⟩ := Tr_new (fs := [.null, .null, .null, .null, .null, .int 0, .int 0, .int 0]) T hr z 7 8 (by omega) (by omega) (z3 z (Nat.le_refl _) (by omega)) (by omega) rfl
  generalize hp1 : pA p z g.2.1 = p1 at e1 T1
  generalize hs1 : sNw s z (1, 7) = s1 at e1 T1
  generalize hg1 : zadd g (true, .inr (7, [.null, .null, .null, .null, .null, .int 0, .int 0, .int 0])) 8 = g1 at e1 T1
  have q1 : p1.1 z = g.2.1 := by rw [← hp1]; exact cu_same _ _ _
  have c1 : s1.1 z = (1, 7) := by rw [← hs1]; exact cu_same _ _ _
  have f1 : ∀ d, d ≠ z → p1.1 d = p.1 d ∧ s1.1 d = s.1 d ∧ s1.2.1 d = s.2.1 d ∧ s1.2.2.1 d = s.2.2.1 d ∧ s1.2.2.2 d = s.2.2.2 d := fun d hd => by
    rw [← hp1, ← hs1]
    exact ⟨cu_ne p.1 _ hd, sNw_o s hd _⟩
  have rd1 := f1 (nb + 400) (by omega)
  have g4 : gI (cH p1 s1 g1) (p.1 (nb + 400)) 6 4 = some (tSc t2 14) := by
    rw [← rd1.1, c_gI T1.1.1 (rd1.2.1.trans hB.1) rfl, rd1.2.2.1, hst]
  -- the fields
  have hx := T1.1.2.2.1
  have n6 : ∀ (s9 : cT) (a : Nat), s9.1 = s1.1 → (s9.1 (XT + a)).1 ≠ 6 := fun s9 a he => by
    rw [he]
    have := (T1.1.2.2.2.2.2.2 (XT + a) (Nat.le_add_right _ _)).1
    omega
  have R : ∀ (s9 : cT) (j : Nat) (v : Option Nat), Tr p0 g0 p1 s9 g1 (k + 1) (m + 8) → s9.1 = s1.1 → (vT 7)[j]? = some 2 → (v = none ∨ v = some z ∨ ∃ a, v = some (XT + a)) → pF (cH p1 s9 g1) g.2.1 7 j (va_rf (v.map p1.1)) = some (cH p1 (uR s9 z j v) g1) ∧ Tr p0 g0 p1 (uR s9 z j v) g1 (k + 1) (m + 8) := fun s9 j v T9 h9 hj hv => by
    have c9 : s9.1 z = (1, 7) := by rw [h9]; exact c1
    refine ⟨?_, Kp_uR T9.1 (by omega) j (fun e he => ?_), T9.2⟩
    · have := c_pQ (g := g1) (v := v) T9.1.1 c9 hj
      rw [q1] at this
      exact this
    · rcases hv with w | w | ⟨a, w⟩
      · rw [w] at he; cases he
      · rw [w] at he; cases he
        exact ⟨Or.inl (by rw [c9]; exact Nat.succ_ne_zero _), fun q => absurd q (by rw [c9]; exact (show ¬ (1 : Nat) = 6 by decide))⟩
      · rw [w] at he; cases he
        exact ⟨Or.inr (Nat.le_add_right _ _), fun q => absurd q (n6 s9 a h9)⟩
  have mp : ∀ v : Option Nat, (v.map fun a => XT + a).map p1.1 = v := fun v => by
    cases v with
    | none => rfl
    | some a => exact congrArg some (hx a)
  have dis : ∀ v : Option Nat, (v.map fun a => XT + a) = none ∨ (v.map fun a => XT + a) = some z ∨ ∃ a, (v.map fun a => XT + a) = some (XT + a) := fun v => by
    cases v with
    | none => exact Or.inl rfl
    | some a => exact Or.inr (Or.inr ⟨a, rfl⟩)
  obtain ⟨a1, T2⟩ := R s1 0 (some z) T1 rfl rfl (Or.inr (Or.inl rfl))
  obtain ⟨a2, T3⟩ := R _ 1 ((E.2.2 0).map fun a => XT + a) T2 rfl rfl (dis _)
  obtain ⟨a3, T4⟩ := R _ 2 ((E.2.2 1).map fun a => XT + a) T3 rfl rfl (dis _)
  obtain ⟨a4, T5⟩ := R _ 1 none T4 rfl rfl (Or.inl rfl)
  obtain ⟨a5, T6⟩ := R _ 3 none T5 rfl rfl (Or.inl rfl)
  obtain ⟨a6, T7⟩ := R _ 0 none T6 rfl rfl (Or.inl rfl)
  obtain ⟨a7, T8⟩ := R _ 2 none T7 rfl rfl (Or.inl rfl)
  rw [mp] at a2 a3
  rw [show va_rf ((some z).map p1.1) = Value.ref g.2.1 from congrArg Value.ref q1] at a1
  generalize hs8 : uR (uR (uR (uR (uR (uR (uR s1 z 0 (some z)) z 1 ((E.2.2 0).map fun a => XT + a)) z 2 ((E.2.2 1).map fun a => XT + a)) z 1 none) z 3 none) z 0 none) z 2 none = s8 at a7 T8
  have sh8 : s8.1 = s1.1 := by rw [← hs8]; rfl
  have I8 : s8.2.1 = s1.2.1 := by rw [← hs8]; rfl
  have L8 : s8.2.2.1 = s1.2.2.1 := by rw [← hs8]; rfl
  have R8 : ∀ d, d ≠ z → s8.2.2.2 d = s1.2.2.2 d := fun d hd => by
    rw [← hs8]
    funext q
    rw [uR_ne _ _ (Or.inl hd), uR_ne _ _ (Or.inl hd), uR_ne _ _ (Or.inl hd), uR_ne _ _ (Or.inl hd), uR_ne _ _ (Or.inl hd), uR_ne _ _ (Or.inl hd), uR_ne _ _ (Or.inl hd)]
  obtain ⟨a8, T9⟩ := Tr_I T8 z 7 6 (a := g.2.1) (v := c) (by rw [sh8]; exact c1) rfl q1
  obtain ⟨a9, T10⟩ := Tr_I T9 z 7 7 (a := g.2.1) (v := tSc t2 14) (by rw [uI_S, sh8]; exact c1) rfl q1
  generalize hs9 : uI (uI s8 z 6 c) z 7 (tSc t2 14) = s9 at a9 T10
  have ck : ckt (cH p1 s9 g1) g.2.1 7 = some () := by
    have sz : s9.1 z = (1, 7) := by rw [← hs9, uI_S, uI_S, sh8]; exact c1
    unfold ckt
    rw [← q1, cH_at T10.1.1 (by rw [sz]; exact Nat.succ_ne_zero _), cC_obj sz]
    exact if_pos rfl
  refine ⟨g.2.1, cH p1 s9 g1, uSc (uSc t2 11 c) 12 (tSc t2 14), ?_, ?_, ⟨k + 1, m + 8, z, p1, s9, g1, rfl, q1.symm, T10, by omega, by omega, fun d hd => ?_, twF_u (twF_u ht (by decide) _) (by decide) _, by rw [← hs9, uI_S, uI_S, sh8]; exact c1, by omega, by omega, ?_, ?_, ?_⟩, rfl⟩
  · unfold f_X7_require f_X7_require_b0 f_X8_init f_X8_init_b0 f_J4_init_2_X8 f_J4_init_2_X8_b0 f_J3_init_3_X8 f_J3_init_3_X8_b0 f_J3_init_3_X8_b41 f_J3_init_3_X8_b60
    have n0 : va_rf ((none : Option Nat).map p1.1) = .null := rfl
    rw [n0] at a4 a5 a6 a7
    have v0 : va_rf (none : Option Nat) = .null := rfl
    rw [if_pos rfl, e1, b2_some, g4, b1_some, a1, b1_some, a2, b1_some, a3, b1_some, if_pos rfl, a4, b1_some, v0, a5, b1_some, a6, b1_some, if_pos rfl, a7, b1_some, b2_some, b2_some, a8, b1_some, a9, b1_some, b2_some, ck, b1_some]
  · unfold t_X6_fail t_X6_fail_b0
    rw [tSc_u, if_neg (by decide)]
  · have dz : d ≠ z := by omega
    have x := f1 d dz
    have y := hO d hd
    refine ⟨x.1.trans y.1, ?_, fun d1 => ?_, ?_, ?_⟩
    · rw [← hs9, uI_S, uI_S, sh8]; exact x.2.1.trans y.2.1
    · rw [← hs9, uI_row _ dz, uI_row _ dz, I8]; exact x.2.2.1.trans (y.2.2.1 d1)
    · rw [← hs9, uI_L, uI_L, L8]; exact x.2.2.2.1.trans y.2.2.2.1
    · rw [← hs9, uI_R, uI_R, R8 d dz]; exact x.2.2.2.2.trans y.2.2.2.2
  · rw [← hs9, uI_ne _ _ (Or.inr (by decide)), uI_s, tSc_u, if_neg (by decide), tSc_u, if_pos rfl]
  · rw [← hs9, uI_s, tSc_u, if_pos rfl]
  · rw [tSc_u, if_neg (by decide), tSc_u, if_pos rfl]; exact hc
/-- a scan -/
theorem L_sc (hE : 20000 ≤ E.1) (h : Ld p0 g0 s0 t0 nb k m ps z kd p s g t) (hr : rm g0 20000 220000) (hk : k ≤ 18900) (hm : m ≤ 219500) (hnb : nb + 10000 ≤ XT) (hkd : kd ≠ 0) {v : Int32} : ∃ p1 s1 g1 t1 ps1 kd1, f_X7_scan E (p.1 (nb + 400)) (cH p s g) = some ((), cH p1 s1 g1) ∧ t_X6_advance E (uSc t 15 v) = some ((), t1) ∧ (z + 2 ≤ nb + 9500 → Ld p0 g0 s0 t0 nb (k + 4) (m + 28) ps1 (z + 2) kd1 p1 s1 g1 t1) ∧ ps < ps1 ∧ Kq nb z p s g t p1 s1 g1 t1 ∧ tSc t1 15 = v := by
  obtain ⟨T, hO, hF, ⟨L, i, hB, h9, hi, hps, hkk⟩, ⟨z1, z2, z3⟩, hR⟩ := h
  have hzr : nb + 400 < z := by omega
  have b9 : tSc (uSc t 15 v) 9 = Int32.ofNat L := by rw [tSc_u, if_neg (by decide)]; exact h9
  obtain ⟨p1, s1, g1, t1, i1, kd1, a1, a2, a3, a4, a5, a6, a7, a8, a9⟩ := L_scan (E := E) (t := uSc t 15 v) (b := t.2.2.1 7) hE T.1 (Tr_rm T hr (k1 := 4) (m1 := 60) (by omega) (by omega)) hzr (by omega) (z3 z (Nat.le_refl _) (by omega)) (z3 (z + 1) (Nat.le_succ _) (by omega)) hB hi hkk.2.1 (by rw [tSc_u, if_neg (by decide)]; exact hkk.2.2.1) b9 rfl
  have hB1 := BR_sc hB a4 hzr
  have e7 : t1.2.2.1 = t.2.2.1 := a5.2.2.1
  rw [if_neg hkd] at hps
  refine ⟨p1, s1, g1, t1, i1 + (if kd1 = 0 then 1 else 0), kd1, a1, a2, fun hz => ⟨Tr_tr T a3, fun d hd => ?_, twF_Tt (twF_u hF (by decide) _) a5, ⟨L, i1, by rw [e7]; exact hB1, ?_, a7, rfl, tk_v a9 T.2.2.1 (svw_rfl _)⟩, ⟨by omega, hz, fun d d1 d2 => ?_⟩, ⟨(a4.2.2.2.2.2 1 (by decide)).trans hR.1, (a4.2.2.2.2.2 2 (by decide)).trans hR.2.1, hR.2.2⟩⟩, ?_, ⟨fun d d1 d2 => a4.1 d d1 (Or.inl d2), a4.2.1, svw_mono (rv0_Tr a3), a5.1, e7, ?_⟩, ?_⟩
  · have x := a4.1 d (by omega) (by omega)
    have y := hO d hd
    exact ⟨x.1.trans y.1, x.2.1.trans y.2.1, fun d1 => x.2.2.1.trans (y.2.2.1 d1), x.2.2.2.1.trans y.2.2.2.1, x.2.2.2.2.trans y.2.2.2.2⟩
  · rw [a5.2.2.2 9 (by decide) (by decide) (by decide)]; exact b9
  · rw [(a4.1 d (by omega) (by omega)).2.1]; exact z3 d (by omega) d2
  · by_cases q : kd1 = 0
    · rw [if_pos q]; omega
    · rw [if_neg q]; have := a8 q; omega
  · rw [a5.2.2.2 21 (by decide) (by decide) (by decide), tSc_u, if_neg (by decide)]
  · rw [a5.2.2.2 15 (by decide) (by decide) (by decide), tSc_u, if_pos rfl]
end LD
