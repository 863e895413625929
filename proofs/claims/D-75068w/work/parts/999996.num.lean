/-! numbers and names are read *(component against twin)* -/
set_option maxRecDepth 100000
section LD
variable {E : zE} {p0 : cP} {g0 : zH} {s0 : cT} {t0 : twS} {nb k m ps z kd : Nat} {p : cP} {s : cT} {g : zH} {t : twS}
theorem L_s (hE : 20000 ≤ E.1) (h : Ld p0 g0 s0 t0 nb k m ps z kd p s g t) (hr : rm g0 20000 220000) (hq : bq nb k m z) (hnb : nb + 10000 ≤ XT) (hkd : kd ≠ 0) (v : Int32) : ∃ p1 s1 g1 t1 ps1 kd1, f_X7_scan E (p.1 (nb + 400)) (cH p s g) = some ((), cH p1 s1 g1) ∧ t_X6_advance E (uSc t 15 v) = some ((), t1) ∧ Ld p0 g0 s0 t0 nb (k + 4) (m + 28) ps1 (z + 2) kd1 p1 s1 g1 t1 ∧ ps < ps1 ∧ ps1 ≤ 1501 ∧ Kq nb z p s g t p1 s1 g1 t1 ∧ tSc t1 15 = v := by
  obtain ⟨q1, q2, q3⟩ := hq
  obtain ⟨p1, s1, g1, t1, ps1, kd1, a1, a2, a3, a4, a5, a6⟩ := L_sc (v := v) hE h hr (by omega) (by omega) hnb hkd
  have a3 := a3 (by omega)
  exact ⟨p1, s1, g1, t1, ps1, kd1, a1, a2, a3, a4, Ld_ps a3, a5, a6⟩
theorem uSc_same {t : twS} {k : Nat} {v : Int32} (h : tSc t k = v) : uSc t k v = t := by
  have e : va_up t.2.2.2.1 k v = t.2.2.2.1 := by
    funext j
    unfold va_up
    by_cases q : j = k
    · rw [if_pos q, q]; exact h.symm
    · rw [if_neg q]
  unfold uSc
  rw [e]
/-- a scan, with nothing laid into the twin's number -/
theorem L_s0 (hE : 20000 ≤ E.1) (h : Ld p0 g0 s0 t0 nb k m ps z kd p s g t) (hr : rm g0 20000 220000) (hq : bq nb k m z) (hnb : nb + 10000 ≤ XT) (hkd : kd ≠ 0) : ∃ p1 s1 g1 t1 ps1 kd1, f_X7_scan E (p.1 (nb + 400)) (cH p s g) = some ((), cH p1 s1 g1) ∧ t_X6_advance E t = some ((), t1) ∧ Ld p0 g0 s0 t0 nb (k + 4) (m + 28) ps1 (z + 2) kd1 p1 s1 g1 t1 ∧ ps < ps1 ∧ ps1 ≤ 1501 ∧ Kq nb z p s g t p1 s1 g1 t1 ∧ tSc t1 15 = tSc t 15 := by
  have k := L_s hE h hr hq hnb hkd (tSc t 15)
  rw [uSc_same rfl] at k
  exact k
theorem Ld_kd (h : Ld p0 g0 s0 t0 nb k m ps z kd p s g t) : s.1 (nb + 400) = (1, 6) ∧ s.2.1 (nb + 400) 5 = Int32.ofNat kd ∧ tSc t 13 = Int32.ofNat kd ∧ kd < 5 ∧ s.2.1 (nb + 400) 4 = tSc t 14 ∧ (kd = 2 → ∃ n, n < 1000000 ∧ s.2.1 (nb + 400) 6 = Int32.ofNat n ∧ t.2.2.2.2 = Int64.ofNat n) ∧ (kd = 1 → ∃ d a, g0.2.1 ≤ a ∧ wrd d ∧ t.2.2.2.2 = Int64.ofNat (wpk d) ∧ s.2.2.2 (nb + 400) 7 = some (XT + a) ∧ StrH (rv0 p g) a (chd d)) := by
  obtain ⟨-, -, -, ⟨L, i, hB, -, -, -, a1, -, -, ⟨st, -, a4, a5⟩, a6, a7, a8, a9⟩, -⟩ := h
  exact ⟨hB.1, a6, a7, a1, a4.trans a5.symm, a8, a9⟩
theorem kd_eq {kd j : Nat} (h : kd < 5) (hj : j < 5) : Int32.ofNat kd = Int32.ofNat j ↔ kd = j := i32_eq (by omega) (by omega)
/-- a number, not passed yet -/
theorem L_fig (h : Ld p0 g0 s0 t0 nb k m ps z kd p s g t) (hr : rm g0 20000 220000) (hq : bq nb k m z) (hnb : nb + 10000 ≤ XT) (lo hi : Int32) : (∃ n : Nat, kd = 2 ∧ n < 1000000 ∧ lo.toInt ≤ n ∧ n ≤ hi.toInt ∧ t.2.2.2.2 = Int64.ofNat n ∧ f_X7_figure E (p.1 (nb + 400)) lo hi (cH p s g) = some (.inl (Int32.ofNat n), cH p s g) ∧ t_X6_readNumber E lo hi t = bnd2 (t_X6_advance E (uSc t 15 (Int32.ofNat n))) fun _ s15_ => some ((1 : Int32), s15_)) ∨ ∃ a H t1, f_X7_figure E (p.1 (nb + 400)) lo hi (cH p s g) = some (.inr (7, a), H) ∧ t_X6_readNumber E lo hi t = some (0, t1) ∧ Fa p0 g0 s0 t0 nb H a t1 := by
  obtain ⟨q1, q2, q3⟩ := hq
  obtain ⟨c1, c2, c3, c4, c5, c6, -⟩ := Ld_kd h
  have hp := h.1.1.1
  have g5 : gI (cH p s g) (p.1 (nb + 400)) 6 5 = some (Int32.ofNat kd) := (c_gI hp c1 rfl).trans (congrArg some c2)
  have ck := c_cko (g := g) hp c1
  unfold f_X7_figure f_X7_figure_b0 f_X7_figure_b14 t_X6_readNumber t_X6_readNumber_b0
  rw [g5, b1_some, c3]
  by_cases w : kd = 2
  · obtain ⟨n, hn, n6, nv⟩ := c6 w
    have g6 : gI (cH p s g) (p.1 (nb + 400)) 6 6 = some (Int32.ofNat n) := (c_gI hp c1 rfl).trans (congrArg some n6)
    have e2 : Int32.ofNat kd = (2 : Int32) := by rw [w]; rfl
    have rg : (lo.toInt64 ≤ Int64.ofNat n ∧ Int64.ofNat n ≤ hi.toInt64) ↔ lo.toInt ≤ n ∧ n ≤ hi.toInt := by
      rw [Int64.le_iff_toInt_le, Int64.le_iff_toInt_le, i64_of32, i64_of32, Int64.toInt_ofNat_of_lt (by omega)]
    rw [if_pos e2, if_pos e2, ck, b1_some, req_t, b2_some, el_l, g6, b1_some, b_inRange, b2_some, ck, b1_some, i32_64 (by omega), y_inRange, b2_some, nv]
    by_cases r : lo.toInt ≤ n ∧ n ≤ hi.toInt
    · refine Or.inl ⟨n, w, hn, r.1, r.2, rfl, ?_, ?_⟩
      · rw [if_pos (rg.mpr r), req_t, b2_some, el_l, g6, b1_some]
      · rw [if_pos (rg.mpr r), if_neg (by decide), i64_32]
    · obtain ⟨a, H, t1, f1, f2, f3, -⟩ := L_fail (E := E) h hr (by omega) (by omega) hnb h.2.2.1 c5 (c := 2) (by decide)
      refine Or.inr ⟨a, H, t1, ?_, ?_, f3⟩
      · rw [if_neg (fun q => r (rg.mp q)), f1, b2_some, el_r]
      · rw [if_neg (fun q => r (rg.mp q)), if_pos rfl, f2, b2_some, zgd0, b1_some]
  · have e2 : ¬ Int32.ofNat kd = (2 : Int32) := fun q => w ((kd_eq c4 (by decide)).mp q)
    obtain ⟨a, H, t1, f1, f2, f3, -⟩ := L_fail (E := E) h hr (by omega) (by omega) hnb h.2.2.1 c5 (c := 1) (by decide)
    refine Or.inr ⟨a, H, t1, ?_, ?_, f3⟩
    · rw [if_neg e2, ck, b1_some, f1, b2_some, el_r]
    · rw [if_neg e2, f2, b2_some, zgd0, b1_some]
/-- a number -/
theorem L_num (hE : 20000 ≤ E.1) (h : Ld p0 g0 s0 t0 nb k m ps z kd p s g t) (hr : rm g0 20000 220000) (hq : bq nb k m z) (hnb : nb + 10000 ≤ XT) (lo hi : Int32) : (∃ (n : Nat) (p1 : cP) (s1 : cT) (g1 : zH) (t1 : twS) (ps1 kd1 : Nat), n < 1000000 ∧ lo.toInt ≤ n ∧ n ≤ hi.toInt ∧ f_X7_number E (p.1 (nb + 400)) lo hi (cH p s g) = some (.inl (Int32.ofNat n), cH p1 s1 g1) ∧ t_X6_readNumber E lo hi t = some ((1 : Int32), t1) ∧ Ld p0 g0 s0 t0 nb (k + 4) (m + 28) ps1 (z + 2) kd1 p1 s1 g1 t1 ∧ ps < ps1 ∧ ps1 ≤ 1501 ∧ Kq nb z p s g t p1 s1 g1 t1 ∧ tSc t1 15 = Int32.ofNat n) ∨ ∃ a H t1, f_X7_number E (p.1 (nb + 400)) lo hi (cH p s g) = some (.inr (7, a), H) ∧ t_X6_readNumber E lo hi t = some (0, t1) ∧ Fa p0 g0 s0 t0 nb H a t1 := by
  have ck := c_cko (g := g) h.1.1.1 (Ld_kd h).1
  unfold f_X7_number f_X7_number_b0
  rcases L_fig (E := E) h hr hq hnb lo hi with ⟨n, w, hn, r1, r2, nv, e1, e2⟩ | ⟨a, H, t1, e1, e2, f3⟩
  · obtain ⟨p1, s1, g1, t1, ps1, kd1, a1, a2, a3, a4, a5, a6, a7⟩ := L_s hE h hr hq hnb (by omega) (Int32.ofNat n)
    refine Or.inl ⟨n, p1, s1, g1, t1, ps1, kd1, hn, r1, r2, ?_, ?_, a3, a4, a5, a6, a7⟩
    · rw [ck, b1_some, e1, b2_some, el_l, ck, b1_some, a1, b2_some]
    · rw [e2, a2, b2_some]
  · exact Or.inr ⟨a, H, t1, by rw [ck, b1_some, e1, b2_some, el_r], e2, f3⟩
/-- behind a hash -/
theorem Ld_hG (h : Ld p0 g0 s0 t0 nb k m ps z kd p s g t) {g1 : zH} {a : Nat} (hg : hG p g g1 a) (ha : g0.2.1 ≤ a) : Ld p0 g0 s0 t0 nb k m ps z kd p s g1 t ∧ Kq nb z p s g t p s g1 t := by
  obtain ⟨T, hO, hF, ⟨L, i, hB, h9, hi, hps, hk⟩, hz, hR⟩ := h
  obtain ⟨a1, a2, a3, a4⟩ := hg
  refine ⟨⟨⟨Kp_g T.1 (by rw [a1]; exact Nat.le_refl _), fun b hb hn => ⟨(T.2.1 b hb hn).1, (a2 b (by omega)).trans (T.2.1 b hb hn).2⟩, by rw [a1]; exact T.2.2⟩, hO, hF, ⟨L, i, hB, h9, hi, hps, tk_v hk (Nat.le_refl _) a4⟩, hz, hR⟩, ⟨fun _ _ _ => ⟨rfl, rfl, rfl, rfl, rfl⟩, rfl, a4, rfl, rfl, rfl⟩⟩
/-- names: the component's list, the twin's block *(tf)* -/
def Nms (s : cT) (v : Nat → Option zC) (tf : Nat → Int64) (c2 c5 c6 n : Nat) (na : Nat → Nat) (nm : Nat → List Nat) : Prop := (s.1 c2 = (1, 2) ∧ s.2.2.2 c2 1 = some c5 ∧ lst s c5 c6 n (fun i => XT + na i) ∧ n ≤ 8) ∧ (∀ i, i < n → wrd (nm i) ∧ StrH v (na i) (chd (nm i)) ∧ tf (58 + 16 * i + 0) = Int64.ofNat (wpk (nm i))) ∧ tf 2 = Int64.ofNat n
theorem y_named (hE : 20000 ≤ E.1) {blk n : Nat} (hb : blk < 4) {nm : Nat → List Nat} {d : List Nat} (hd : wrd d) (h2 : t.1 (5054 * blk + 2) = Int64.ofNat n) (hn : n ≤ 8) (hv : ∀ i, i < n → wrd (nm i) ∧ t.1 (5054 * blk + (58 + 16 * i + 0)) = Int64.ofNat (wpk (nm i))) : ∀ k j m, j + k = n → (∀ i, i < j → nm i ≠ d) → (∃ i, i < n ∧ nm i = d ∧ (∀ j, j < i → nm j ≠ d) ∧ t_X6_named_l3 E (m + k + 1) (Int32.ofNat blk) (Int64.ofNat (wpk d)) (Int32.ofNat j) t = some (Int32.ofNat i, t)) ∨ (∀ i, i < n → nm i ≠ d) ∧ t_X6_named_l3 E (m + k + 1) (Int32.ofNat blk) (Int64.ofNat (wpk d)) (Int32.ofNat j) t = some (-1, t) := by
  have e2 : tdL t 1 ((5054 : Int32) * Int32.ofNat blk + (2 : Int32)) = some (Int64.ofNat n) := by
    rw [← h2, show (5054 : Int32) = Int32.ofNat 5054 from rfl, show (2 : Int32) = Int32.ofNat 2 from rfl, ← Int32.ofNat_mul, ← Int32.ofNat_add]
    exact y_d (by omega)
  have e3 : ∀ j, j < 8 → tdL t 1 ((5054 : Int32) * Int32.ofNat blk + (58 : Int32) + (16 : Int32) * Int32.ofNat j + (0 : Int32)) = some (t.1 (5054 * blk + (58 + 16 * j + 0))) := fun j hj => by
    rw [show (5054 : Int32) = Int32.ofNat 5054 from rfl, show (58 : Int32) = Int32.ofNat 58 from rfl, show (16 : Int32) = Int32.ofNat 16 from rfl, show (0 : Int32) = Int32.ofNat 0 from rfl, ← Int32.ofNat_mul, ← Int32.ofNat_add, ← Int32.ofNat_mul, ← Int32.ofNat_add, ← Int32.ofNat_add, show 5054 * blk + 58 + 16 * j + 0 = 5054 * blk + (58 + 16 * j + 0) by omega]
    exact y_d (by omega)
  intro k
  induction k with
  | zero =>
    intro j m hj hne
    refine Or.inr ⟨fun i hi => hne i (by omega), ?_⟩
    rw [t_X6_named_l3, e2, b1_some, i32_64 (by omega), if_pos ((i64_le (by omega) (by omega)).mpr (by omega))]
  | succ k ih =>
    intro j m hj hne
    obtain ⟨w1, w2⟩ := hv j (by omega)
    rw [show m + (k + 1) + 1 = (m + k + 1) + 1 by omega, t_X6_named_l3, e2, b1_some, i32_64 (by omega), if_neg (fun q => by have := (i64_le (by omega) (by omega)).mp q; omega), e3 j (by omega), b1_some, w2]
    have iff := wpk_64 w1.2.2 hd.2.2 w1.2.1 hd.2.1
    by_cases q : nm j = d
    · rw [if_pos (iff.mpr q)]
      exact Or.inl ⟨j, by omega, q, hne, rfl⟩
    · rw [if_neg (fun x => q (iff.mp x)), i32_s]
      exact ih (j + 1) m (by omega) (fun i hi => by
        by_cases w : i = j
        · rw [w]; exact q
        · exact hne i (by omega))
/-- a name is looked up -/
theorem L_nmd (hE : 20000 ≤ E.1) (hK : Kp p s g) {blk c2 c5 c6 n a : Nat} (hb : blk < 4) {na : Nat → Nat} {nm : Nat → List Nat} {d : List Nat} (hN : Nms s (rv0 p g) (fun y => t.1 (5054 * blk + y)) c2 c5 c6 n na nm) (hd : wrd d) (hk : StrH (rv0 p g) a (chd d)) : (∃ i, i < n ∧ nm i = d ∧ f_X2_named_J9 E (p.1 c2) a (cH p s g) = some (Int32.ofNat i, cH p s g) ∧ t_X6_named E (Int32.ofNat blk) (Int64.ofNat (wpk d)) t = some (Int32.ofNat i, t)) ∨ (∀ i, i < n → nm i ≠ d) ∧ f_X2_named_J9 E (p.1 c2) a (cH p s g) = some (-1, cH p s g) ∧ t_X6_named E (Int32.ofNat blk) (Int64.ofNat (wpk d)) t = some (-1, t) := by
  obtain ⟨⟨n1, n2, n3, n4⟩, n5, n6⟩ := hN
  have cc : ∀ i, i < n → (chd (nm i) = chd d ↔ nm i = d) := fun i hi => chd_inj (n5 i hi).1.2.2 hd.2.2
  have A := named_l (E := E) (n := n) (nm := fun i => chd (nm i)) (l := chd d) hE hK.1 hK.2.2.1 n1 n2 n3 (fun i hi => ⟨StrH_Str (n5 i hi).2.1, by rw [chd_len]; have := (n5 i hi).1.2.1; omega⟩) (StrH_Str hk) n 0 (E.1 - n - 1) (by omega) (fun i hi => absurd hi (Nat.not_lt_zero _))
  have B := y_named (E := E) hE hb hd n6 n4 (fun i hi => ⟨(n5 i hi).1, (n5 i hi).2.2⟩) n 0 (E.1 - n - 1) (by omega) (fun i hi => absurd hi (Nat.not_lt_zero _))
  rw [show E.1 - n - 1 + n + 1 = E.1 by omega] at A B
  rcases A with ⟨i, i1, i2, i3, i4⟩ | ⟨i1, i2⟩
  · rcases B with ⟨j, j1, j2, j3, j4⟩ | ⟨j1, j2⟩
    · have e : i = j := by
        rcases Nat.lt_trichotomy i j with w | w | w
        · exact absurd ((cc i i1).mp i2) (j3 i w)
        · exact w
        · exact absurd ((cc j j1).mpr j2) (i3 j w)
      subst e
      exact Or.inl ⟨i, i1, j2, i4, j4⟩
    · exact absurd ((cc i i1).mp i2) (j1 i i1)
  · rcases B with ⟨j, j1, j2, j3, j4⟩ | ⟨j1, j2⟩
    · exact absurd ((cc j j1).mpr j2) (i1 j j1)
    · exact Or.inr ⟨j1, i2, j2⟩
theorem Nms_v {s : cT} {v v1 : Nat → Option zC} {tf : Nat → Int64} {c2 c5 c6 n : Nat} {na : Nat → Nat} {nm : Nat → List Nat} (h : Nms s v tf c2 c5 c6 n na nm) (hv : svw v v1) : Nms s v1 tf c2 c5 c6 n na nm := ⟨h.1, fun i hi => ⟨(h.2.1 i hi).1, hv.2 _ _ (h.2.1 i hi).2.1, (h.2.1 i hi).2.2⟩, h.2.2⟩
/-- the name of an earlier franchisee -/
theorem L_name (hE : 20000 ≤ E.1) (h : Ld p0 g0 s0 t0 nb k m ps z kd p s g t) (hr : rm g0 20000 220000) (hq : bq nb k m z) (hnb : nb + 10000 ≤ XT) (hL : Lt E (rv0 p0 g0)) {blk c2 c5 c6 n : Nat} (hb : blk < 4) {na : Nat → Nat} {nm : Nat → List Nat} (hN : Nms s (rv0 p g) (fun y => t.1 (5054 * blk + y)) c2 c5 c6 n na nm) (hsv : svw (rv0 p0 g0) (rv0 p g)) : (∃ i p1 s1 g1 t1 ps1 kd1, i < n ∧ f_X7_namedIn E (p.1 (nb + 400)) (p.1 c2) (cH p s g) = some (.inl (Int32.ofNat i), cH p1 s1 g1) ∧ t_X6_readName E (Int32.ofNat blk) t = some (Int32.ofNat i, t1) ∧ Ld p0 g0 s0 t0 nb (k + 4) (m + 28) ps1 (z + 2) kd1 p1 s1 g1 t1 ∧ ps < ps1 ∧ ps1 ≤ 1501 ∧ Kq nb z p s g t p1 s1 g1 t1) ∨ ∃ a H t1, f_X7_namedIn E (p.1 (nb + 400)) (p.1 c2) (cH p s g) = some (.inr (7, a), H) ∧ t_X6_readName E (Int32.ofNat blk) t = some (-1, t1) ∧ Fa p0 g0 s0 t0 nb H a t1 := by
  have hq' := hq
  obtain ⟨q1, q2, q3⟩ := hq
  obtain ⟨c1, c2', c3, c4, c5', -, c7⟩ := Ld_kd h
  have hp := h.1.1.1
  have g5 : gI (cH p s g) (p.1 (nb + 400)) 6 5 = some (Int32.ofNat kd) := (c_gI hp c1 rfl).trans (congrArg some c2')
  unfold f_X7_namedIn f_X7_namedIn_b0 f_X7_namedIn_b20 f_X7_namedIn_b21 f_X7_namedIn_b45 t_X6_readName t_X6_readName_b0 t_X6_readName_b20 t_X6_readName_b21 t_X6_readName_b39 t_X6_readName_b55 t_X6_readName_b66
  rw [g5, b1_some, c3]
  by_cases w : kd = 1
  · obtain ⟨d, a, la, hd, hv, h7, hS⟩ := c7 w
    have e1 : Int32.ofNat kd = (1 : Int32) := by rw [w]; rfl
    obtain ⟨g1, hg, xr⟩ := x_res (E := E) hE hp h.1.1.2.2.1 (Lt_svw hsv hL) c1 h7 hd hS
    obtain ⟨h', K1⟩ := Ld_hG h hg la
    have st := y_stm (E := E) (c3.trans e1) hv hd
    have ck := c_cko (g := g) hp c1
    have ck1 := c_cko (g := g1) hp c1
    rw [if_pos e1, if_pos e1, ck, b1_some, xr, b2_some, st, b2_some]
    by_cases rd : resd d
    · -- reserved
      obtain ⟨i, i1, i2, i3⟩ := rd
      have ns : ¬ stI d = -1 := by
        rw [i3, stI_kw i i1 i2]
        exact i32_neg1 (by omega)
      obtain ⟨a9, H, t1, f1, f2, f3, -⟩ := L_fail (E := E) h' hr (by omega) (by omega) hnb h'.2.2.1 c5' (c := 1) (by decide)
      refine Or.inr ⟨a9, H, t1, ?_, ?_, f3⟩
      · rw [bi_t ⟨i, i1, i2, i3⟩, if_neg (by decide), ck1, b1_some, f1, b2_some, el_r]
      · rw [if_neg ns, if_pos rfl, if_pos rfl, if_pos rfl, f2, b2_some]
    · have hS1 := hg.2.2.2.2 a _ hS
      have hN1 := Nms_v hN hg.2.2.2
      have r7 : gR (cH p s g1) (p.1 (nb + 400)) 6 7 = some a := by
        have := c_gR (g := g1) hp c1 rfl h7
        rw [h.1.1.2.2.1] at this
        exact this
      have ckc := c_cko (g := g1) hp hN.1.1
      rw [bi_f rd, if_pos rfl, ck1, b1_some, req_t, b2_some, el_l, r7, b1_some, ckc, b1_some, stI_n rd, if_pos rfl, if_neg (by decide), hv]
      rcases L_nmd hE h'.1.1 hb hN1 hd hS1 with ⟨i, i1, i2, i3, i4⟩ | ⟨i1, i3, i4⟩
      · have ni : ¬ Int32.ofNat i = -1 := i32_neg1 (by have := hN.1.2.2.2; omega)
        obtain ⟨p1, s1, g2, t1, ps1, kd1, a1, a2, a3, a4, a5, a6, a7⟩ := L_s0 hE h' hr hq' hnb (by omega)
        refine Or.inl ⟨i, p1, s1, g2, t1, ps1, kd1, i1, ?_, ?_, a3, a4, a5, Kq_tr K1 a6 (Nat.le_refl _)⟩
        · rw [i3, b2_some, if_neg ni, ck1, b1_some, req_t, b2_some, el_l, ck1, b1_some, a1, b2_some]
        · rw [i4, b2_some, if_neg ni, a2, b2_some]
      · obtain ⟨a9, H, t1, f1, f2, f3, -⟩ := L_fail (E := E) h' hr (by omega) (by omega) hnb h'.2.2.1 c5' (c := 3) (by decide)
        refine Or.inr ⟨a9, H, t1, ?_, ?_, f3⟩
        · rw [i3, b2_some, if_pos rfl, ck1, b1_some, f1, b2_some, el_r]
        · rw [i4, b2_some, if_pos rfl, if_neg (by decide), f2, b2_some]
  · have e1 : ¬ Int32.ofNat kd = (1 : Int32) := fun q => w ((kd_eq c4 (by decide)).mp q)
    obtain ⟨a9, H, t1, f1, f2, f3, -⟩ := L_fail (E := E) h hr (by omega) (by omega) hnb h.2.2.1 c5' (c := 1) (by decide)
    refine Or.inr ⟨a9, H, t1, ?_, ?_, f3⟩
    · rw [if_neg e1, c_cko hp c1, b1_some, f1, b2_some, el_r]
    · rw [if_neg e1, if_pos rfl, if_pos rfl, if_pos rfl, f2, b2_some]
end LD
