/-! StringBuilder: a number is appended -/
set_option maxRecDepth 100000
/-- DigitTens, DigitOnes -/
def Dgs (E : zE) (f : Nat → Option zC) : Prop := ∀ i, i = 102 ∨ i = 103 → ∃ w f2, f (E.2.1 i) = some (w, .inl (2, 100, .inl f2)) ∧ ∀ k, k < 100 → f2 k = if i = 102 then dch (k / 10) else dch k
theorem Dgs_mono {E : zE} {f f1 : Nat → Option zC} (h : ∀ b c, f b = some c → f1 b = some c) (k : Dgs E f) : Dgs E f1 := fun i hi => by
  obtain ⟨w, f2, h1, h2⟩ := k i hi
  exact ⟨w, f2, h _ _ h1, h2⟩
theorem dch8 (n : Nat) : (dch n).toInt8.toInt32 = dch n := by
  have k : ∀ m, m < 10 → (Int32.ofNat (48 + m)).toInt8.toInt32 = Int32.ofNat (48 + m) := by decide
  exact k _ (Nat.mod_lt _ (by decide))
theorem n64 {n : Nat} (h : n < 2 ^ 63) : (-(Int64.ofNat n)).toInt = -(n : Int) := by
  rw [Int64.toInt_neg, Int64.toInt_ofNat_of_lt h, Int.bmod_eq_of_le (by omega) (by omega)]
theorem n32 {n : Nat} (h : n < 2 ^ 31) : (-(Int32.ofNat n)).toInt = -(n : Int) := by
  rw [Int32.toInt_neg, i32_toInt h, Int.bmod_eq_of_le (by omega) (by omega)]
theorem tdn (n : Nat) : (-(n : Int)).tdiv 100 = -((n / 100 : Nat) : Int) := by
  rw [Int.neg_tdiv, Int.tdiv_eq_ediv_of_nonneg (by omega)]
  rfl
theorem d64 {n : Nat} (h : n < 2 ^ 63) : -(Int64.ofNat n) / (100 : Int64) = -(Int64.ofNat (n / 100)) := by
  rw [← Int64.toInt_inj, Int64.toInt_div, n64 h, n64 (by omega)]
  show ((-(n : Int)).tdiv 100).bmod (2 ^ 64) = _
  rw [tdn, Int.bmod_eq_of_le (by omega) (by omega)]
theorem d32 {n : Nat} (h : n < 2 ^ 31) : -(Int32.ofNat n) / (100 : Int32) = -(Int32.ofNat (n / 100)) := by
  rw [← Int32.toInt_inj, Int32.toInt_div, n32 h, n32 (by omega)]
  show ((-(n : Int)).tdiv 100).bmod (2 ^ 32) = _
  rw [tdn, Int.bmod_eq_of_le (by omega) (by omega)]
theorem m64 {n : Nat} (h : n < 2 ^ 63) : (-(Int64.ofNat n) / (100 : Int64) * (100 : Int64) - -(Int64.ofNat n)).toInt32 = Int32.ofNat (n % 100) := by
  rw [d64 h]
  have e : -(Int64.ofNat (n / 100)) * (100 : Int64) - -(Int64.ofNat n) = Int64.ofNat (n % 100) := by
    rw [← Int64.toInt_inj, Int64.toInt_sub, Int64.toInt_mul, n64 h, n64 (by omega), Int64.toInt_ofNat_of_lt (by omega)]
    show ((-((n / 100 : Nat) : Int) * 100).bmod (2 ^ 64) - -(n : Int)).bmod (2 ^ 64) = _
    rw [Int.bmod_eq_of_le (n := -((n / 100 : Nat) : Int) * 100) (by omega) (by omega), Int.bmod_eq_of_le (by omega) (by omega)]
    omega
  rw [e, i64_32]
theorem m32 {n : Nat} (h : n < 2 ^ 31) : -(Int32.ofNat n) / (100 : Int32) * (100 : Int32) - -(Int32.ofNat n) = Int32.ofNat (n % 100) := by
  rw [d32 h]
  rw [← Int32.toInt_inj, Int32.toInt_sub, Int32.toInt_mul, n32 h, n32 (by omega), i32_toInt (by omega)]
  show ((-((n / 100 : Nat) : Int) * 100).bmod (2 ^ 32) - -(n : Int)).bmod (2 ^ 32) = _
  rw [Int.bmod_eq_of_le (n := -((n / 100 : Nat) : Int) * 100) (by omega) (by omega), Int.bmod_eq_of_le (by omega) (by omega)]
  omega
/-- bytes are written from a on -/
def wrt (s s1 : cT) (r a : Nat) (l : List Int32) : Prop := s1.1 = s.1 ∧ s1.2.2 = s.2.2 ∧ (∀ d, d ≠ r → s1.2.1 d = s.2.1 d) ∧ (∀ j, j < a ∨ a + l.length ≤ j → s1.2.1 r j = s.2.1 r j) ∧ ∀ j c, l[j]? = some c → s1.2.1 r (a + j) = c
theorem wrt_1 (s : cT) (r a : Nat) (c : Int32) : wrt s (uI s r a c) r a [c] := ⟨rfl, rfl, fun d hd => uI_row _ hd _ _, fun j hj => uI_ne _ _ (Or.inr (by have : [c].length = 1 := rfl; omega)), fun j x hj => by
  cases j with
  | zero => cases hj; exact uI_s _ _ _ _
  | succ j => cases hj⟩
theorem wrt_app {s s1 s2 : cT} {r a : Nat} {l1 l2 : List Int32} (h2 : wrt s s1 r (a + l1.length) l2) (h1 : wrt s1 s2 r a l1) : wrt s s2 r a (l1 ++ l2) := by
  obtain ⟨a1, a2, a3, a4, a5⟩ := h2
  obtain ⟨b1, b2, b3, b4, b5⟩ := h1
  refine ⟨b1.trans a1, b2.trans a2, fun d hd => (b3 d hd).trans (a3 d hd), fun j hj => ?_, fun j c hj => ?_⟩
  · rw [List.length_append] at hj
    rw [b4 j (by omega), a4 j (by omega)]
  · rcases Nat.lt_or_ge j l1.length with w | w
    · rw [List.getElem?_append_left w] at hj
      exact b5 j c hj
    · rw [List.getElem?_append_right w] at hj
      rw [b4 _ (by omega)]
      have := a5 _ c hj
      rw [show a + l1.length + (j - l1.length) = a + j by omega] at this
      exact this
section SB
variable {p0 : cP} {g0 : zH} {p : cP} {s : cT} {g : zH} {E : zE} {b r r' L cap need k m : Nat}
theorem dt_dI (h : Dgs E (rv0 p g)) {i : Nat} (hi : i < 100) : dI (cH p s g) (E.2.1 103) 2 (Int32.ofNat i) = some (dch i) ∧ dI (cH p s g) (E.2.1 102) 2 (Int32.ofNat i) = some (dch (i / 10)) := by
  obtain ⟨w, f, h1, h2⟩ := h 103 (Or.inr rfl)
  obtain ⟨w', f', h1', h2'⟩ := h 102 (Or.inl rfl)
  obtain ⟨_, x2, x3⟩ := rv0_spec h1
  obtain ⟨_, y2, y3⟩ := rv0_spec h1'
  have cnd : 2 = 2 ∧ ¬ (Int32.ofNat i < 0 ∨ 100 ≤ (Int32.ofNat i).toNatClampNeg) := by
    rw [nat_clamp (by omega)]
    exact ⟨rfl, fun q => q.elim (i32_nneg (by omega)) (by omega)⟩
  refine ⟨?_, ?_⟩
  · rw [r_dI x2]; unfold dI; rw [x3]
    refine (if_pos cnd).trans ?_
    rw [nat_clamp (by omega), h2 i hi, if_neg (by decide)]
  · rw [r_dI y2]; unfold dI; rw [y3]
    refine (if_pos cnd).trans ?_
    rw [nat_clamp (by omega), h2' i hi, if_pos rfl]
theorem sb_w1 (hp : okP p s) (hc : s.1 r = (4, cap)) {P : Nat} (hP : P < cap) (hb : cap < 100000) (c : Int32) : sI (cH p s g) (p.1 r) 2 (Int32.ofNat P) c = some (cH p (uI s r P c) g) := by
  have e := c_sI (g := g) (j := Int32.ofNat P) (v := c) hp (t := 2) hc (Or.inr (Or.inl rfl)) (by rw [nat_clamp (by omega)]; exact fun q => q.elim (i32_nneg (by omega)) (by omega))
  rw [nat_clamp (by omega)] at e
  exact e
theorem addm1 {P : Nat} (h : 1 ≤ P) (h2 : P < 2 ^ 30) : Int32.ofNat P + (-1 : Int32) = Int32.ofNat (P - 1) := by
  rw [i32_addm1 h2, if_neg (by omega)]
/-- the loop over ints: the digits of m end ahead of P -/
theorem gc86 (hb : cap < 100000) : ∀ n (s : cT) m P, okP p s → s.1 r = (4, cap) → Dgs E (rv0 p g) → m < 100 ^ (n + 1) → m < 2 ^ 31 → (dg m).length ≤ P → P ≤ cap → ∃ s1, f_J24_getChars_l86 E (n + 1) (p.1 r) (Int32.ofNat P) 0 (-(Int32.ofNat m)) (cH p s g) = some (Int32.ofNat (P - (dg m).length), cH p s1 g) ∧ wrt s s1 r (P - (dg m).length) (dg m)
  | n, s, m, P, hp, hc, hD, hm, hm2, hP, hPc => by
    rw [f_J24_getChars_l86]
    have c1 : (-100 : Int32) < -(Int32.ofNat m) ↔ m < 100 := by
      rw [Int32.lt_iff_toInt_lt, n32 hm2]
      show (-100 : Int) < _ ↔ _
      omega
    have c2 : (-9 : Int32) ≤ -(Int32.ofNat m) ↔ m < 10 := by
      rw [Int32.le_iff_toInt_le, n32 hm2]
      show (-9 : Int) ≤ _ ↔ _
      omega
    have nn : -(-(Int32.ofNat m)) = Int32.ofNat m := Int32.neg_neg
    by_cases w : m < 100
    · rw [if_pos (c1.mpr w), nn, (dt_dI (s := s) hD w).1, b1_some, dch8]
      by_cases w2 : m < 10
      · rw [dg_1 w2] at hP ⊢
        have hP1 : 1 ≤ P := hP
        rw [addm1 hP1 (by omega), sb_w1 hp hc (by omega) hb, b1_some, if_pos (c2.mpr w2)]
        exact ⟨_, rfl, wrt_1 s r (P - 1) (dch m)⟩
      · rw [dg_2 (by omega) w] at hP ⊢
        have hP1 : 2 ≤ P := hP
        rw [addm1 (by omega) (by omega), sb_w1 hp hc (by omega) hb, b1_some, if_neg (fun q => w2 (c2.mp q)), (dt_dI (s := uI s r (P - 1) (dch m)) hD w).2, b1_some, dch8, addm1 (by omega) (by omega), sb_w1 (s := uI s r (P - 1) (dch m)) hp hc (by omega) hb, b1_some]
        refine ⟨_, rfl, ?_⟩
        have k1 := wrt_1 s r (P - 2 + [dch (m / 10)].length) (dch m)
        have k2 := wrt_1 (uI s r (P - 1) (dch m)) r (P - 2) (dch (m / 10))
        rw [show P - 2 + [dch (m / 10)].length = P - 1 by show P - 2 + 1 = _; omega] at k1
        have k3 := wrt_app (l1 := [dch (m / 10)]) (by rw [show P - 2 + [dch (m / 10)].length = P - 1 by show P - 2 + 1 = _; omega]; exact k1) k2
        exact k3
    · have e3 := dg_3 (n := m) (by omega) (by omega)
      have l3 : (dg m).length = (dg (m / 100)).length + 2 := by rw [e3, List.length_append]; rfl
      cases n with
      | zero => omega
      | succ n =>
        rw [if_neg (fun q => w (c1.mp q)), m32 hm2, d32 hm2, (dt_dI (s := s) hD (Nat.mod_lt m (by decide))).1, b1_some, dch8, addm1 (by omega) (by omega), sb_w1 hp hc (by omega) hb, b1_some, (dt_dI (s := uI s r (P - 1) (dch (m % 100))) hD (Nat.mod_lt m (by decide))).2, b1_some, dch8, addm1 (by omega) (by omega), sb_w1 (s := uI s r (P - 1) (dch (m % 100))) hp hc (by omega) hb, b1_some]
        have x1 : dch (m % 100) = dch m := congrArg (fun z => Int32.ofNat (48 + z)) (by omega)
        have x2 : dch (m % 100 / 10) = dch (m / 10) := congrArg (fun z => Int32.ofNat (48 + z)) (by omega)
        rw [x1, x2]
        obtain ⟨s1, r1, r2⟩ := gc86 hb n (uI (uI s r (P - 1) (dch m)) r (P - 1 - 1) (dch (m / 10))) (m / 100) (P - 1 - 1) hp hc hD (by rw [Nat.pow_succ] at hm; omega) (by omega) (by omega) (by omega)
        refine ⟨s1, ?_, ?_⟩
        · rw [r1, show P - 1 - 1 - (dg (m / 100)).length = P - (dg m).length by omega]
        · rw [show P - 1 - 1 - (dg (m / 100)).length = P - (dg m).length by omega] at r2
          rw [e3]
          rw [← e3]
          generalize hA : P - (dg m).length = A at *
          have hA2 : A + (dg (m / 100)).length = P - 2 := by omega
          have k1 := wrt_1 s r (P - 1) (dch m)
          have k2 := wrt_1 (uI s r (P - 1) (dch m)) r (P - 1 - 1) (dch (m / 10))
          have k3 := wrt_app (a := P - 1 - 1) (l1 := [dch (m / 10)]) (by rw [show P - 1 - 1 + [dch (m / 10)].length = P - 1 by show P - 1 - 1 + 1 = _; omega]; exact k1) k2
          have k4 := wrt_app (a := A) (l1 := dg (m / 100)) (by rw [hA2, show P - 2 = P - 1 - 1 by omega]; exact k3) r2
          rw [e3]
          exact k4
theorem gc24 (hb : cap < 100000) (hE : 20000 ≤ E.1) : ∀ n (s : cT) m P, okP p s → s.1 r = (4, cap) → Dgs E (rv0 p g) → m < 100 ^ (n + 1) → m < 2 ^ 63 → (dg m).length ≤ P → P ≤ cap → ∃ s1, f_J24_getChars_l24 E (n + 1) (-(Int64.ofNat m)) (p.1 r) (Int32.ofNat P) 0 (cH p s g) = some (Int32.ofNat (P - (dg m).length), cH p s1 g) ∧ wrt s s1 r (P - (dg m).length) (dg m)
  | n, s, m, P, hp, hc, hD, hm, hm2, hP, hPc => by
    rw [f_J24_getChars_l24]
    have c1 : (-2147483648 : Int64) < -(Int64.ofNat m) ↔ m < 2 ^ 31 := by
      rw [Int64.lt_iff_toInt_lt, n64 hm2]
      show (-2147483648 : Int) < _ ↔ _
      omega
    by_cases w : m < 2 ^ 31
    · rw [if_pos (c1.mpr w), Int64.toInt32_neg, i64_32]
      obtain ⟨e, he⟩ : ∃ e, E.1 = e + 5 + 1 := ⟨E.1 - 6, by omega⟩
      rw [he]
      exact gc86 hb (e + 5) s m P hp hc hD (Nat.lt_of_lt_of_le (show m < 100 ^ 6 by omega) (Nat.pow_le_pow_right (by decide) (by omega))) w hP hPc
    · have e3 := dg_3 (n := m) (by omega) (by omega)
      have l3 : (dg m).length = (dg (m / 100)).length + 2 := by rw [e3, List.length_append]; rfl
      cases n with
      | zero => omega
      | succ n =>
        rw [if_neg (fun q => w (c1.mp q)), m64 hm2, d64 hm2, (dt_dI (s := s) hD (Nat.mod_lt m (by decide))).1, b1_some, dch8, addm1 (by omega) (by omega), sb_w1 hp hc (by omega) hb, b1_some, (dt_dI (s := uI s r (P - 1) (dch (m % 100))) hD (Nat.mod_lt m (by decide))).2, b1_some, dch8, addm1 (by omega) (by omega), sb_w1 (s := uI s r (P - 1) (dch (m % 100))) hp hc (by omega) hb, b1_some]
        have x1 : dch (m % 100) = dch m := congrArg (fun z => Int32.ofNat (48 + z)) (by omega)
        have x2 : dch (m % 100 / 10) = dch (m / 10) := congrArg (fun z => Int32.ofNat (48 + z)) (by omega)
        rw [x1, x2]
        obtain ⟨s1, r1, r2⟩ := gc24 hb hE n (uI (uI s r (P - 1) (dch m)) r (P - 1 - 1) (dch (m / 10))) (m / 100) (P - 1 - 1) hp hc hD (by rw [Nat.pow_succ] at hm; omega) (by omega) (by omega) (by omega)
        refine ⟨s1, ?_, ?_⟩
        · rw [r1, show P - 1 - 1 - (dg (m / 100)).length = P - (dg m).length by omega]
        · rw [show P - 1 - 1 - (dg (m / 100)).length = P - (dg m).length by omega] at r2
          generalize hA : P - (dg m).length = A at *
          have hA2 : A + (dg (m / 100)).length = P - 2 := by omega
          have k1 := wrt_1 s r (P - 1) (dch m)
          have k2 := wrt_1 (uI s r (P - 1) (dch m)) r (P - 1 - 1) (dch (m / 10))
          have k3 := wrt_app (a := P - 1 - 1) (l1 := [dch (m / 10)]) (by rw [show P - 1 - 1 + [dch (m / 10)].length = P - 1 by show P - 1 - 1 + 1 = _; omega]; exact k1) k2
          have k4 := wrt_app (a := A) (l1 := dg (m / 100)) (by rw [hA2, show P - 2 = P - 1 - 1 by omega]; exact k3) r2
          rw [e3]
          exact k4
theorem ssz {n : Nat} (hn : n < 10 ^ 18) (h : zH) : ∀ f i, i < 18 → 18 < f + i → (∀ d, d < i → 10 ^ (d + 1) ≤ n) → f_J24_stringSize_l20 E f (-(Int64.ofNat n)) 0 (-(Int64.ofNat (10 ^ (i + 1)))) (Int32.ofNat (i + 1)) h = some (Int32.ofNat (dg n).length, h)
  | 0, i, hi, hf, _ => by omega
  | f + 1, i, hi, hf, hd => by
    have p18 : 10 ^ (i + 1) ≤ 10 ^ 18 := Nat.pow_le_pow_right (by decide) (by omega)
    rw [f_J24_stringSize_l20, if_neg (by rw [show (19 : Int32) = Int32.ofNat 19 from rfl, i32_le (by decide) (by omega)]; omega)]
    have c1 : -(Int64.ofNat n) ≤ -(Int64.ofNat (10 ^ (i + 1))) ↔ 10 ^ (i + 1) ≤ n := by
      rw [Int64.le_iff_toInt_le, n64 (by omega), n64 (by omega)]
      omega
    by_cases w : 10 ^ (i + 1) ≤ n
    · have i17 : i + 1 < 18 := by
        rcases Nat.lt_or_ge (i + 1) 18 with z | z
        · exact z
        · have : 10 ^ 18 ≤ 10 ^ (i + 1) := Nat.pow_le_pow_right (by decide) z
          omega
      rw [if_pos (c1.mpr w), i32_s, Int64.mul_neg, show (10 : Int64) = Int64.ofNat 10 from rfl, ← Int64.ofNat_mul, show 10 * 10 ^ (i + 1) = 10 ^ (i + 1 + 1) by rw [Nat.pow_succ 10 (i + 1), Nat.mul_comm]]
      exact ssz hn h f (i + 1) i17 (by omega) (fun d hd2 => by
        by_cases q : d = i
        · rw [q]; exact w
        · exact hd d (by omega))
    · rw [if_neg (fun q => w (c1.mp q)), dg_len (i := i) (by omega) (by omega) hd, Int32.add_zero]
theorem sb_apN (hE : 20000 ≤ E.1) {K M : Nat} (T : Tr p0 g0 p s g k m) (hr : rm g0 K M) (h : Sb s b r L cap) (hbx : b < XT) {n : Nat} (hn18 : n < 10 ^ 18) (hz : cap < L + (dg n).length → (s.1 r').1 = 0) (hrx : r' < XT) (hbr : b ≠ r') (hc : cap ≤ 5000) (hn : L + (dg n).length ≤ 5000) (hk : k + 1 ≤ K) (hm : m + 2 * cap + 2 + (L + (dg n).length) ≤ M) (hD : Dgs E (rv0 p0 g0)) : ∃ p1 s1 g1 r1 cap1, f_J8_append_4 E (p.1 b) (Int64.ofNat n) (cH p s g) = some (p.1 b, cH p1 s1 g1) ∧ (∃ p2 s2 g2, sbG p0 g0 p s r r' cap (L + (dg n).length) k m p2 s2 g2 r1 cap1 ∧ p1 = p2 ∧ s1.1 = s2.1 ∧ g1 = g2 ∧ ∀ k1 m1, Tr p0 g0 p2 s2 g2 k1 m1 → Tr p0 g0 p1 s1 g1 k1 m1) ∧ Sb s1 b r1 (L + (dg n).length) cap1 ∧ (∀ j, j < L → s1.2.1 r1 j = s.2.1 r j) ∧ (∀ j c, (dg n)[j]? = some c → s1.2.1 r1 (L + j) = c) ∧ (∀ d, d ≠ r' → d ≠ r → d ≠ b → p1.1 d = p.1 d ∧ s1.1 d = s.1 d ∧ s1.2.1 d = s.2.1 d ∧ s1.2.2.1 d = s.2.2.1 d ∧ s1.2.2.2 d = s.2.2.2 d) ∧ p1.1 b = p.1 b := by
  have h1 := h.1
  have h5 := h.2.2.2.2.1
  have hcap := h.2.2.2.2.2
  have hp := T.1.1
  have hsz : f_J24_stringSize E (Int64.ofNat n) (cH p s g) = some (Int32.ofNat (dg n).length, cH p s g) := by
    unfold f_J24_stringSize f_J24_stringSize_b0 f_J24_stringSize_b13
    have c0 : ¬ Int64.ofNat n < (0 : Int64) := fun q => by
      rw [show (0 : Int64) = Int64.ofNat 0 from rfl, i64_lt (by omega) (by decide)] at q
      omega
    rw [if_neg c0]
    exact ssz hn18 _ E.1 0 (by decide) (by omega) (fun d hd => absurd hd (Nat.not_lt_zero _))
  generalize hl : (dg n).length = ln at *
  obtain ⟨p1, s1, g1, r1, cap1, e1, G1, S1, n1, B1, F1, F2⟩ := sb_ens (E := E) (need := L + ln) (r' := r') T hr h hbx hz hrx hc hn hk hm
  obtain ⟨k1, m1, _, _, T1⟩ := sbG_Tr G1
  have hp1 := T1.1.1
  have S1' := S1
  obtain ⟨j1, j2, j3, j4, j5, j6, j7⟩ := S1
  have nb1 : r1 ≠ b := fun w => by rw [w, j1] at j3; cases j3
  have pb : p1.1 b = p.1 b := (F1 b hbr).1
  have hgc : ∃ s2, f_J24_getChars E (Int64.ofNat n) (Int32.ofNat (L + ln)) (p1.1 r1) (cH p1 s1 g1) = some (Int32.ofNat L, cH p1 s2 g1) ∧ wrt s1 s2 r1 L (dg n) := by
    obtain ⟨e, he⟩ : ∃ e, E.1 = e + 9 + 1 := ⟨E.1 - 10, by omega⟩
    obtain ⟨s2, k1, k2⟩ := gc24 (p := p1) (g := g1) (r := r1) j7 hE (e + 9) s1 n (L + ln) hp1 j3 (Dgs_mono (rv0_Tr T1) hD) (Nat.lt_of_lt_of_le (show n < 100 ^ 10 by omega) (Nat.pow_le_pow_right (by decide) (by omega))) (by omega) (by omega) n1
    rw [hl, show L + ln - ln = L by omega] at k1 k2
    refine ⟨s2, ?_, k2⟩
    unfold f_J24_getChars f_J24_getChars_b0 f_J24_getChars_b14
    rw [if_pos (by rw [show (0 : Int64) = Int64.ofNat 0 from rfl, i64_le (by decide) (by omega)]; omega), if_pos rfl, he]
    exact k1
  obtain ⟨s2, e2, S2, R2, I2, B2, B3⟩ := hgc
  have T2 : ∀ k1 m1, Tr p0 g0 p1 s1 g1 k1 m1 → Tr p0 g0 p1 s2 g1 k1 m1 := fun _ _ T => ⟨Kp_t T.1 S2 (by rw [R2]), T.2⟩
  have j1' : s2.1 b = (1, 18) := by rw [S2]; exact j1
  obtain ⟨e3, T3⟩ := Tr_I (T2 _ _ T1) b 18 3 (v := Int32.ofNat (L + ln)) j1' rfl rfl
  refine ⟨p1, uI s2 b 3 (Int32.ofNat (L + ln)), g1, r1, cap1, ?_, ⟨p1, s1, g1, G1, rfl, S2, rfl, fun k1 m1 T => ⟨Kp_uI (T2 _ _ T).1 _ _ _, T.2⟩⟩, ⟨j1', ?_, ?_, ?_, uI_s _ _ _ _, by omega, j7⟩, fun j hj => ?_, fun j c hj => ?_, fun d d1 d2 d3 => ?_, pb⟩
  · unfold f_J8_append_4 f_J8_append_4_b0 f_J7_append_4 f_J7_append_4_b0 f_J7_append_4_b52
    rw [c_cko hp h1, b1_some, c_gI hp h1 rfl, h5, b1_some, hsz, b2_some, c_cko hp h1, b1_some, ← Int32.ofNat_add, e1, b2_some, ← pb, c_cko hp1 j1, b1_some, sb_lat hp1 S1', b2_some, if_neg (by decide), c_gR hp1 j1 rfl j2, b1_some, e2, b2_some, e3, b1_some, b2_some]
  · show s2.2.2.2 b 0 = _
    rw [R2]; exact j2
  · show s2.1 r1 = _
    rw [S2]; exact j3
  · rw [uI_ne _ _ (Or.inr (by decide)), I2 b nb1.symm]; exact j4
  · rw [uI_row _ nb1, B2 j (Or.inl hj)]; exact B1 j hj
  · rw [uI_row _ nb1]; exact B3 j c hj
  · have d4 : d ≠ r1 := fun w => by
      rcases G1 with ⟨a1, _⟩ | ⟨a1, _⟩
      · exact d2 (w.trans a1)
      · exact d1 (w.trans a1)
    have x := F1 d d1
    refine ⟨x.1, ?_, ?_, ?_, ?_⟩
    · show s2.1 d = _
      rw [S2]; exact x.2.1
    · rw [uI_row _ d3, I2 d d4]; exact x.2.2.1
    · show s2.2.2.1 d = _
      rw [R2]; exact x.2.2.2
    · show s2.2.2.2 d = _
      rw [R2]; exact F2 d d1 d3
end SB
