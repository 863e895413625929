/-! area -/
set_option maxRecDepth 100000
section AR
variable {E : zE} {p : cP} {s : cT} {g : zH} {t : twS} {nb Z x1 y1 x2 y2 i : Nat}
theorem f_wi (hp : okP p s) (hZ : s.1 Z = (1, 12)) (z0 : s.2.1 Z 0 = Int32.ofNat x1) (z1 : s.2.1 Z 1 = Int32.ofNat y1) (z2 : s.2.1 Z 2 = Int32.ofNat x2) (z3 : s.2.1 Z 3 = Int32.ofNat y2) (h1 : x1 < x2) (h2 : x2 ≤ 30) (h3 : y1 < y2) (h4 : y2 ≤ 30) {c : Nat} (hc : c < 900) : f_X13_contains E (p.1 Z) (Int32.ofNat c) (cH p s g) = some (bi (wi x1 y1 x2 y2 c), cH p s g) := by
  have g0 : gI (cH p s g) (p.1 Z) 12 0 = some (Int32.ofNat x1) := (c_gI hp hZ rfl).trans (congrArg some z0)
  have g1 : gI (cH p s g) (p.1 Z) 12 1 = some (Int32.ofNat y1) := (c_gI hp hZ rfl).trans (congrArg some z1)
  have g2 : gI (cH p s g) (p.1 Z) 12 2 = some (Int32.ofNat x2) := (c_gI hp hZ rfl).trans (congrArg some z2)
  have g3 : gI (cH p s g) (p.1 Z) 12 3 = some (Int32.ofNat y2) := (c_gI hp hZ rfl).trans (congrArg some z3)
  have e1 : Int32.ofNat x2 - (1 : Int32) = Int32.ofNat (x2 - 1) := i32_sub (b := 1) (by omega) (by omega)
  have e2 : Int32.ofNat y2 - (1 : Int32) = Int32.ofNat (y2 - 1) := i32_sub (b := 1) (by omega) (by omega)
  have k1 : ((Int32.ofNat x1).toInt64 ≤ (Int32.ofNat (c % 30)).toInt64 ∧ (Int32.ofNat (c % 30)).toInt64 ≤ (Int32.ofNat (x2 - 1)).toInt64) ↔ x1 ≤ c % 30 ∧ c % 30 < x2 := by
    rw [i32_64_le, i32_64_le, i32_le (by omega) (by omega), i32_le (by omega) (by omega)]
    omega
  have k2 : ((Int32.ofNat y1).toInt64 ≤ (Int32.ofNat (c / 30)).toInt64 ∧ (Int32.ofNat (c / 30)).toInt64 ≤ (Int32.ofNat (y2 - 1)).toInt64) ↔ y1 ≤ c / 30 ∧ c / 30 < y2 := by
    rw [i32_64_le, i32_64_le, i32_le (by omega) (by omega), i32_le (by omega) (by omega)]
    omega
  unfold f_X13_contains f_X13_contains_b0 f_X13_contains_b50 f_X13_contains_b51 f_X1_column f_X1_column_b0 f_X1_row f_X1_row_b0
  rw [b2_some, i32_mod30 (by omega), g0, b1_some, g2, b1_some, e1, b_inRange, b2_some, bi_of k1]
  by_cases q1 : x1 ≤ c % 30 ∧ c % 30 < x2
  · rw [bi_t q1, if_neg (by decide), b2_some, i32_div30 (by omega), g1, b1_some, g3, b1_some, e2, b_inRange, b2_some, bi_of k2]
    by_cases q2 : y1 ≤ c / 30 ∧ c / 30 < y2
    · rw [bi_t q2, if_neg (by decide), zgd1, bi_t (show wi x1 y1 x2 y2 c from ⟨q1.1, q1.2, q2.1, q2.2⟩)]; rfl
    · rw [bi_f q2, if_pos rfl, zgd0, bi_f (show ¬ wi x1 y1 x2 y2 c from fun k => q2 ⟨k.2.2.1, k.2.2.2⟩)]; rfl
  · rw [bi_f q1, if_pos rfl, zgd0, bi_f (show ¬ wi x1 y1 x2 y2 c from fun k => q1 ⟨k.1, k.2.1⟩)]; rfl
/-- the way to the owners -/
def grW (s : cT) (nb : Nat) : Prop := s.1 (nb + 400) = (1, 6) ∧ s.2.2.2 (nb + 400) 2 = some (nb + 10) ∧ s.1 (nb + 10) = (1, 4) ∧ s.2.2.2 (nb + 10) 2 = some (nb + 15) ∧ s.1 (nb + 15) = (1, 5) ∧ s.2.2.2 (nb + 15) 0 = some (nb + 16) ∧ s.1 (nb + 16) = (4, 900)
theorem y_celd {c : Nat} (hc : c < 900) : tdL t 1 ((15412 : Int32) + Int32.ofNat c) = some (t.1 (15412 + c)) := by
  rw [show (15412 : Int32) = Int32.ofNat 15412 from rfl, ← Int32.ofNat_add]
  exact y_d (by omega)
theorem y_celw {c : Nat} (hc : c < 900) (v : Int64) : tsL t 1 ((15412 : Int32) + Int32.ofNat c) v = some (uSt t (va_up t.1 (15412 + c) v)) := by
  rw [show (15412 : Int32) = Int32.ofNat 15412 from rfl, ← Int32.ofNat_add]
  exact y_s (by omega)
theorem fr_l (hp : okP p s) (hW : grW s nb) (hZ : s.1 Z = (1, 12)) (z0 : s.2.1 Z 0 = Int32.ofNat x1) (z1 : s.2.1 Z 1 = Int32.ofNat y1) (z2 : s.2.1 Z 2 = Int32.ofNat x2) (z3 : s.2.1 Z 3 = Int32.ofNat y2) (h1 : x1 < x2) (h2 : x2 ≤ 30) (h3 : y1 < y2) (h4 : y2 ≤ 30) (hT : ∀ c, c < 900 → t.1 (15412 + c) = (s.2.1 (nb + 16) c).toInt64) : ∀ k j m n, j + k = 900 → f_X7_isFreeFor_l2 E (m + k + 1) (p.1 (nb + 400)) (Int32.ofNat i) (p.1 Z) (Int32.ofNat j) (cH p s g) = some (bi (∀ c, j ≤ c → c < 900 → wi x1 y1 x2 y2 c → s.2.1 (nb + 16) c = -1 ∨ s.2.1 (nb + 16) c = Int32.ofNat i), cH p s g) ∧ t_X6_hasOther_l3 E (n + k + 1) (Int32.ofNat i) (Int32.ofNat x1) (Int32.ofNat y1) (Int32.ofNat x2) (Int32.ofNat y2) (Int32.ofNat j) t = some (bi (¬ ∀ c, j ≤ c → c < 900 → wi x1 y1 x2 y2 c → s.2.1 (nb + 16) c = -1 ∨ s.2.1 (nb + 16) c = Int32.ofNat i), t)
  | 0, j, m, n, hj => by
    have e : ∀ c, j ≤ c → c < 900 → wi x1 y1 x2 y2 c → s.2.1 (nb + 16) c = -1 ∨ s.2.1 (nb + 16) c = Int32.ofNat i := fun c c1 c2 => by omega
    refine ⟨?_, ?_⟩
    · rw [f_X7_isFreeFor_l2, if_pos (by rw [show (900 : Int32) = Int32.ofNat 900 from rfl, i32_le (by decide) (by omega)]; omega), bi_t e]
    · rw [t_X6_hasOther_l3, if_pos (by rw [show (900 : Int32) = Int32.ofNat 900 from rfl, i32_le (by decide) (by omega)]; omega), bi_f (fun q => q e)]
  | k + 1, j, m, n, hj => by
    obtain ⟨w1, w2, w3, w4, w5, w6, w7⟩ := hW
    obtain ⟨A, B⟩ := fr_l hp ⟨w1, w2, w3, w4, w5, w6, w7⟩ hZ z0 z1 z2 z3 h1 h2 h3 h4 hT k (j + 1) m n (by omega)
    have nle : ¬ (900 : Int32) ≤ Int32.ofNat j := by rw [show (900 : Int32) = Int32.ofNat 900 from rfl, i32_le (by decide) (by omega)]; omega
    have hd : dI (cH p s g) (p.1 (nb + 16)) 2 (Int32.ofNat j) = some (s.2.1 (nb + 16) j) := by
      rw [c_dI hp (t := 2) w7 (Or.inr (Or.inl rfl)) (by rw [nat_clamp (by omega)]; exact fun q => q.elim (i32_nneg (by omega)) (by omega)), nat_clamp (by omega)]
    have wd := f_wi (E := E) (g := g) hp hZ z0 z1 z2 z3 h1 h2 h3 h4 (c := j) (by omega)
    have yw := y_wi (E := E) (t := t) (a1 := x1) (b1 := y1) (a2 := x2) (b2 := y2) (c := j) h2 h4 (by omega) (by omega) (by omega)
    have yt := hT j (by omega)
    have yd := y_celd (t := t) (c := j) (by omega)
    have m1 : ((s.2.1 (nb + 16) j).toInt64 = (-1 : Int64)) ↔ s.2.1 (nb + 16) j = -1 := by
      rw [show (-1 : Int64) = ((-1 : Int32)).toInt64 by decide, i32_64_inj]
    have stepP : (wi x1 y1 x2 y2 j → s.2.1 (nb + 16) j = -1 ∨ s.2.1 (nb + 16) j = Int32.ofNat i) → ((∀ c, j + 1 ≤ c → c < 900 → wi x1 y1 x2 y2 c → s.2.1 (nb + 16) c = -1 ∨ s.2.1 (nb + 16) c = Int32.ofNat i) ↔ ∀ c, j ≤ c → c < 900 → wi x1 y1 x2 y2 c → s.2.1 (nb + 16) c = -1 ∨ s.2.1 (nb + 16) c = Int32.ofNat i) := fun h => ⟨fun q c c1 c2 c3 => by
      by_cases e : c = j
      · rw [e] at c3 ⊢; exact h c3
      · exact q c (by omega) c2 c3, fun q c c1 c2 c3 => q c (by omega) c2 c3⟩
    have goA : (wi x1 y1 x2 y2 j → s.2.1 (nb + 16) j = -1 ∨ s.2.1 (nb + 16) j = Int32.ofNat i) → f_X7_isFreeFor_b51 E (f_X7_isFreeFor_l2 E (m + k + 1)) (p.1 (nb + 400)) (Int32.ofNat i) (p.1 Z) (Int32.ofNat j) (cH p s g) = some (bi (∀ c, j ≤ c → c < 900 → wi x1 y1 x2 y2 c → s.2.1 (nb + 16) c = -1 ∨ s.2.1 (nb + 16) c = Int32.ofNat i), cH p s g) := fun h => by
      unfold f_X7_isFreeFor_b51
      rw [i32_s, A, bi_c (stepP h)]
    have goB : (wi x1 y1 x2 y2 j → s.2.1 (nb + 16) j = -1 ∨ s.2.1 (nb + 16) j = Int32.ofNat i) → t_X6_hasOther_b62 E (t_X6_hasOther_l3 E (n + k + 1)) (Int32.ofNat i) (Int32.ofNat x1) (Int32.ofNat y1) (Int32.ofNat x2) (Int32.ofNat y2) (Int32.ofNat j) t = some (bi (¬ ∀ c, j ≤ c → c < 900 → wi x1 y1 x2 y2 c → s.2.1 (nb + 16) c = -1 ∨ s.2.1 (nb + 16) c = Int32.ofNat i), t) := fun h => by
      unfold t_X6_hasOther_b62
      rw [i32_s, B, bi_c (not_congr (stepP h))]
    rw [show m + (k + 1) + 1 = (m + k + 1) + 1 by omega, show n + (k + 1) + 1 = (n + k + 1) + 1 by omega, f_X7_isFreeFor_l2, t_X6_hasOther_l3, if_neg nle, if_neg nle, c_cko hp hZ, b1_some, wd, b2_some, yw, b2_some]
    by_cases q : wi x1 y1 x2 y2 j
    · rw [bi_t q, if_neg (by decide), if_neg (by decide), c_gR hp w1 rfl w2, b1_some, c_gR hp w3 rfl w4, b1_some, c_gR hp w5 rfl w6, b1_some, hd, yd, yt]
      simp only [b1_some]
      by_cases q1 : s.2.1 (nb + 16) j = -1
      · rw [if_pos q1, if_pos (m1.mpr q1)]
        exact ⟨goA (fun _ => Or.inl q1), goB (fun _ => Or.inl q1)⟩
      · rw [if_neg q1, if_neg (fun w => q1 (m1.mp w)), c_gR hp w3 rfl w4, b1_some, c_gR hp w5 rfl w6, b1_some, hd, b1_some]
        by_cases q2 : s.2.1 (nb + 16) j = Int32.ofNat i
        · rw [if_pos q2, if_pos (i32_64_inj.mpr q2)]
          exact ⟨goA (fun _ => Or.inr q2), goB (fun _ => Or.inr q2)⟩
        · have bad : ¬ ∀ c, j ≤ c → c < 900 → wi x1 y1 x2 y2 c → s.2.1 (nb + 16) c = -1 ∨ s.2.1 (nb + 16) c = Int32.ofNat i := fun h => (h j (Nat.le_refl _) (by omega) q).elim q1 q2
          rw [if_neg q2, if_neg (fun w => q2 (i32_64_inj.mp w)), bi_f bad, bi_t bad]
          exact ⟨rfl, rfl⟩
    · rw [bi_f q, if_pos rfl, if_pos rfl]
      exact ⟨goA (fun w => absurd w q), goB (fun w => absurd w q)⟩
/-- the owners are set -/
theorem st_l (hp : okP p s) (hW : grW s nb) (hZ : s.1 Z = (1, 12)) (hZ16 : Z ≠ nb + 16) (z0 : s.2.1 Z 0 = Int32.ofNat x1) (z1 : s.2.1 Z 1 = Int32.ofNat y1) (z2 : s.2.1 Z 2 = Int32.ofNat x2) (z3 : s.2.1 Z 3 = Int32.ofNat y2) (h1 : x1 < x2) (h2 : x2 ≤ 30) (h3 : y1 < y2) (h4 : y2 ≤ 30) (hi : i < 8) : ∀ k j m, j + k = 900 → ∀ s1 : cT, s1.1 = s.1 → s1.2.2 = s.2.2 → (∀ d, d ≠ nb + 16 → s1.2.1 d = s.2.1 d) → ∃ s2, f_X7_area_l77 E (m + k + 1) (p.1 (nb + 400)) (Int32.ofNat i) (p.1 Z) (Int32.ofNat j) (cH p s1 g) = some (.inl (), cH p s2 g) ∧ s2.1 = s.1 ∧ s2.2.2 = s.2.2 ∧ (∀ d, d ≠ nb + 16 → s2.2.1 d = s.2.1 d) ∧ ∀ c, (j ≤ c ∧ c < 900 ∧ wi x1 y1 x2 y2 c → s2.2.1 (nb + 16) c = Int32.ofNat i) ∧ (¬ (j ≤ c ∧ c < 900 ∧ wi x1 y1 x2 y2 c) → s2.2.1 (nb + 16) c = s1.2.1 (nb + 16) c)
  | 0, j, m, hj, s1, e0, eR, eI => by
    refine ⟨s1, ?_, e0, eR, eI, fun c => ⟨fun q => by omega, fun _ => rfl⟩⟩
    rw [f_X7_area_l77, if_pos (by rw [show (900 : Int32) = Int32.ofNat 900 from rfl, i32_le (by decide) (by omega)]; omega)]
  | k + 1, j, m, hj, s1, e0, eR, eI => by
    have hp1 : okP p s1 := okP_t hp e0
    have hW1 : grW s1 nb := by unfold grW; rw [e0, eR]; exact hW
    obtain ⟨w1, w2, w3, w4, w5, w6, w7⟩ := hW1
    have nle : ¬ (900 : Int32) ≤ Int32.ofNat j := by rw [show (900 : Int32) = Int32.ofNat 900 from rfl, i32_le (by decide) (by omega)]; omega
    have hZ1 : s1.1 Z = (1, 12) := by rw [e0]; exact hZ
    have IZ : s1.2.1 Z = s.2.1 Z := eI Z hZ16
    have wd := f_wi (E := E) (g := g) hp1 hZ1 (by rw [IZ]; exact z0) (by rw [IZ]; exact z1) (by rw [IZ]; exact z2) (by rw [IZ]; exact z3) h1 h2 h3 h4 (c := j) (by omega)
    have hset : sI (cH p s1 g) (p.1 (nb + 16)) 2 (Int32.ofNat j) (((Int32.ofNat i).toInt8.toInt32).toInt8.toInt32) = some (cH p (uI s1 (nb + 16) j (Int32.ofNat i)) g) := by
      rw [i8_rt i hi, c_sI hp1 (t := 2) w7 (Or.inr (Or.inl rfl)) (by rw [nat_clamp (by omega)]; exact fun q => q.elim (i32_nneg (by omega)) (by omega)), nat_clamp (by omega)]
    rw [show m + (k + 1) + 1 = (m + k + 1) + 1 by omega, f_X7_area_l77, if_neg nle, c_cko hp1 hZ1, b1_some, wd, b2_some]
    unfold f_X7_area_b110
    by_cases q : wi x1 y1 x2 y2 j
    · obtain ⟨s2, a1, a2, a3, a4, a5⟩ := st_l hp hW hZ hZ16 z0 z1 z2 z3 h1 h2 h3 h4 hi k (j + 1) m (by omega) (uI s1 (nb + 16) j (Int32.ofNat i)) e0 eR (fun d hd => (uI_row _ hd _ _).trans (eI d hd))
      refine ⟨s2, ?_, a2, a3, a4, fun c => ⟨fun c1 => ?_, fun c1 => ?_⟩⟩
      · rw [bi_t q, if_neg (by decide), c_gR hp1 w1 rfl w2, b1_some, c_gR hp1 w3 rfl w4, b1_some, c_gR hp1 w5 rfl w6, b1_some, hset, b1_some, i32_s, a1]
      · by_cases e : c = j
        · rw [(a5 c).2 (by omega), e, uI_s]
        · exact (a5 c).1 ⟨by omega, c1.2⟩
      · by_cases e : c = j
        · exact absurd ⟨by omega, by omega, by rw [e]; exact q⟩ c1
        · rw [(a5 c).2 (fun w => c1 ⟨by omega, w.2⟩), uI_ne _ _ (Or.inr e)]
    · obtain ⟨s2, a1, a2, a3, a4, a5⟩ := st_l hp hW hZ hZ16 z0 z1 z2 z3 h1 h2 h3 h4 hi k (j + 1) m (by omega) s1 e0 eR eI
      refine ⟨s2, ?_, a2, a3, a4, fun c => ⟨fun c1 => ?_, fun c1 => ?_⟩⟩
      · rw [bi_f q, if_pos rfl, i32_s, a1]
      · by_cases e : c = j
        · exact absurd (by rw [← e]; exact c1.2.2) q
        · exact (a5 c).1 ⟨by omega, c1.2⟩
      · exact (a5 c).2 (fun w => c1 ⟨by omega, w.2⟩)
theorem yt_l (h15 : tSc t 15 = Int32.ofNat y2) (h1 : x1 < x2) (h2 : x2 ≤ 30) (h3 : y1 < y2) (h4 : y2 ≤ 30) : ∀ k j m, j + k = 900 → ∀ f : Nat → Int64, ∃ f2, t_X6_readArea_l120 E (m + k + 1) (Int32.ofNat i) (Int32.ofNat x1) (Int32.ofNat y1) (Int32.ofNat x2) (Int32.ofNat j) (uSt t f) = (bnd2 (t_X6_readEnd E (uSt t f2)) fun x5 s3_ => (zgd .boolean x5).bind fun _ => some (x5, s3_)) ∧ (∀ c, (j ≤ c ∧ c < 900 ∧ wi x1 y1 x2 y2 c → f2 (15412 + c) = (Int32.ofNat i).toInt64) ∧ (¬ (j ≤ c ∧ c < 900 ∧ wi x1 y1 x2 y2 c) → f2 (15412 + c) = f (15412 + c))) ∧ ∀ y, y < 15412 → f2 y = f y
  | 0, j, m, hj, f => by
    refine ⟨f, ?_, fun c => ⟨fun q => by omega, fun _ => rfl⟩, fun _ _ => rfl⟩
    rw [t_X6_readArea_l120, if_pos (by rw [show (900 : Int32) = Int32.ofNat 900 from rfl, i32_le (by decide) (by omega)]; omega)]
  | k + 1, j, m, hj, f => by
    have nle : ¬ (900 : Int32) ≤ Int32.ofNat j := by rw [show (900 : Int32) = Int32.ofNat 900 from rfl, i32_le (by decide) (by omega)]; omega
    have yw := y_wi (E := E) (t := uSt t f) (a1 := x1) (b1 := y1) (a2 := x2) (b2 := y2) (c := j) h2 h4 (by omega) (by omega) (by omega)
    have e15 : tSc (uSt t f) 15 = Int32.ofNat y2 := h15
    rw [show m + (k + 1) + 1 = (m + k + 1) + 1 by omega, t_X6_readArea_l120, if_neg nle, e15, yw, b2_some]
    unfold t_X6_readArea_b157
    by_cases q : wi x1 y1 x2 y2 j
    · obtain ⟨f2, a1, a2, a3⟩ := yt_l h15 h1 h2 h3 h4 k (j + 1) m (by omega) (va_up f (15412 + j) (Int32.ofNat i).toInt64)
      refine ⟨f2, ?_, fun c => ⟨fun c1 => ?_, fun c1 => ?_⟩, fun y hy => (a3 y hy).trans (cu_ne _ _ (by omega))⟩
      · rw [bi_t q, if_neg (by decide), y_celw (t := uSt t f) (by omega), b1_some, i32_s]
        exact a1
      · by_cases e : c = j
        · rw [(a2 c).2 (by omega), e, cu_same]
        · exact (a2 c).1 ⟨by omega, c1.2⟩
      · by_cases e : c = j
        · exact absurd ⟨by omega, by omega, by rw [e]; exact q⟩ c1
        · rw [(a2 c).2 (fun w => c1 ⟨by omega, w.2⟩), cu_ne _ _ (by omega)]
    · obtain ⟨f2, a1, a2, a3⟩ := yt_l h15 h1 h2 h3 h4 k (j + 1) m (by omega) f
      refine ⟨f2, ?_, fun c => ⟨fun c1 => ?_, fun c1 => ?_⟩, a3⟩
      · rw [bi_f q, if_pos rfl, i32_s]
        exact a1
      · by_cases e : c = j
        · exact absurd (by rw [← e]; exact c1.2.2) q
        · exact (a2 c).1 ⟨by omega, c1.2⟩
      · exact (a2 c).2 (fun w => c1 ⟨by omega, w.2⟩)
end AR
