/-! StringBuilder: setLength(0); a raw String is appended -/
set_option maxRecDepth 100000
/-- raw cells of g -/
def rv0 (p : cP) (g : zH) : Nat → Option zC := fun b => if b < g.2.1 ∧ p.2 b = none then g.1 b else none
theorem rv0_spec {p : cP} {g : zH} {b : Nat} {c : zC} (h : rv0 p g b = some c) : b < g.2.1 ∧ p.2 b = none ∧ g.1 b = some c := by
  unfold rv0 at h
  by_cases w : b < g.2.1 ∧ p.2 b = none
  · rw [if_pos w] at h; exact ⟨w.1, w.2, h⟩
  · rw [if_neg w] at h; cases h
theorem rv0_Tr {p0 p : cP} {g0 g : zH} {s : cT} {k m : Nat} (T : Tr p0 g0 p s g k m) (b : Nat) (c : zC) (h : rv0 p0 g0 b = some c) : rv0 p g b = some c := by
  obtain ⟨h1, h2, h3⟩ := rv0_spec h
  obtain ⟨k1, k2⟩ := T.2.1 b h1 h2
  unfold rv0
  rw [if_pos ⟨Nat.lt_of_lt_of_le h1 T.2.2.1, k1⟩, k2, h3]
/-- a String of Latin 1 under v: its bytes -/
def Str (f : Nat → Option zC) (v : Nat) (l : List Int32) : Prop := ∃ w a x y w2 f2, f v = some (w, .inr (19, [.ref a, .int 0, .int x, .int y])) ∧ f a = some (w2, .inl (2, l.length, .inl f2)) ∧ (∀ j c, l[j]? = some c → f2 j = c) ∧ l.length < 100000
theorem Str_mono {f f1 : Nat → Option zC} (h : ∀ b c, f b = some c → f1 b = some c) {v : Nat} {l : List Int32} (k : Str f v l) : Str f1 v l := by
  obtain ⟨w, a, x, y, w2, f2, h1, h2, h3⟩ := k
  exact ⟨w, a, x, y, w2, f2, h v _ h1, h a _ h2, h3⟩
section SB
variable {p0 : cP} {g0 : zH} {p : cP} {s : cT} {g : zH} {E : zE} {b r r' L cap need k m : Nat}
theorem sb_set0 (T : Tr p0 g0 p s g k m) (h : Sb s b r L cap) : ∃ s1, f_J8_setLength E (p.1 b) 0 (cH p s g) = some ((), cH p s1 g) ∧ Sb s1 b r 0 cap ∧ Tr p0 g0 p s1 g k m ∧ s1.1 = s.1 ∧ s1.2.2 = s.2.2 ∧ ∀ d, d ≠ b → s1.2.1 d = s.2.1 d := by
  have hS := h
  obtain ⟨h1, h2, h3, h4, h5, h6, h7⟩ := h
  have hp := T.1.1
  have nb1 : r ≠ b := fun w => by rw [w, h1] at h3; cases h3
  have cnd : Int32.ofNat 0 - Int32.ofNat cap ≤ 0 := by
    rw [Int32.le_iff_toInt_le, Int32.toInt_sub, i32_toInt (by omega), i32_toInt (by omega), Int.bmod_eq_of_le (by omega) (by omega)]
    show ((0 : Nat) : Int) - cap ≤ 0
    omega
  have hens : f_J7_ensureCapacityInternal E (p.1 b) (0 : Int32) (cH p s g) = some ((), cH p s g) := by
    unfold f_J7_ensureCapacityInternal f_J7_ensureCapacityInternal_b0 f_J7_ensureCapacityInternal_b38
    rw [c_gR hp h1 rfl h2, b1_some, c_len hp (t := 2) h3, b1_some, c_gI hp h1 rfl, h4, b1_some, sh0]
    exact if_pos cnd
  have c0 : (0 : Int32) ≤ Int32.ofNat L := by rw [show (0 : Int32) = Int32.ofNat 0 from rfl, i32_le (by omega) (by omega)]; omega
  unfold f_J8_setLength f_J8_setLength_b0 f_J7_setLength f_J7_setLength_b0 f_J7_setLength_b76
  rw [c_cko hp h1, b1_some, if_pos (by decide), b1_some, hens, b2_some, c_gI hp h1 rfl, h5, b1_some, if_pos c0, b1_some]
  by_cases q : Int32.ofNat L ≤ 0
  · rw [if_pos q]
    obtain ⟨e1, T1⟩ := Tr_I T b 18 3 (v := (0 : Int32)) h1 rfl rfl
    rw [e1, b1_some, b2_some]
    exact ⟨_, rfl, ⟨h1, h2, h3, by rw [uI_ne _ _ (Or.inr (by decide))]; exact h4, uI_s _ _ _ _, Nat.zero_le _, h7⟩, T1, rfl, rfl, fun d hd => uI_row _ hd _ _⟩
  · rw [if_neg q]
    obtain ⟨e1, T1⟩ := Tr_I T b 18 2 (v := (1 : Int32)) h1 rfl rfl
    obtain ⟨e2, T2⟩ := Tr_I T1 b 18 3 (v := (0 : Int32)) h1 rfl rfl
    rw [e1, b1_some, e2, b1_some, b2_some]
    exact ⟨_, rfl, ⟨h1, h2, h3, by rw [uI_ne _ _ (Or.inr (by decide)), uI_ne _ _ (Or.inr (by decide))]; exact h4, uI_s _ _ _ _, Nat.zero_le _, h7⟩, T2, rfl, rfl, fun d hd => by rw [uI_row _ hd, uI_row _ hd]⟩
/-- raw bytes are copied into an array -/
theorem c_cpX (hp : okP p s) {a d n0 n1 L n : Nat} {w : Bool} {f : Nat → Int32} (ha : p.2 a = none) (hf : g.1 a = some (w, .inl (2, n0, .inl f))) (hd : s.1 d = (4, n1)) (h0 : n ≤ n0) (h1 : L + n ≤ n1) (hn : L + n < 2 ^ 31) : cpA (cH p s g) a (0 : Int32) (p.1 d) (Int32.ofNat L) (Int32.ofNat n) = some (cH p (uA s d fun j => if L ≤ j ∧ j < L + n then f (j - L) else s.2.1 d j) g) := by
  have hdz : (s.1 d).1 ≠ 0 := by rw [hd]; exact Nat.succ_ne_zero _
  have hput := cH_put (g := g) (s1 := uA s d fun j => if L ≤ j ∧ j < L + n then f (j - L) else s.2.1 d j) hp hdz rfl (fun e he => cC_off rfl (cu_ne _ _ he) rfl rfl)
  rw [cC_arr (s := uA s d fun j => if L ≤ j ∧ j < L + n then f (j - L) else s.2.1 d j) (t := 2) (n := n1) hd] at hput
  have e1 : cA p.1 (uA s d fun j => if L ≤ j ∧ j < L + n then f (j - L) else s.2.1 d j) d 2 = .inl (va_cpy f (s.2.1 d) 0 L n) := by
    refine congrArg Sum.inl ((cu_same _ _ _).trans (funext fun j => ?_))
    unfold va_cpy
    by_cases q : L ≤ j ∧ j < L + n
    · rw [if_pos q, if_pos q, show 0 + (j - L) = j - L by omega]
    · rw [if_neg q, if_neg q]
  rw [e1] at hput
  have hcd : 2 = 2 ∧ ¬ (0 : Int32) < 0 ∧ ¬ Int32.ofNat L < 0 ∧ ¬ Int32.ofNat n < 0 ∧ 0 + n ≤ n0 ∧ L + n ≤ n1 ∧ (List.range n).all (fun i => okV (cH p s g) 2 (zv (.inl f) (0 + i))) = true := ⟨rfl, by decide, i32_nneg (by omega), i32_nneg (by omega), by omega, by omega, by
    rw [List.all_eq_true]
    intro i _
    rfl⟩
  unfold cpA
  rw [cH_raw ha, hf, cH_at hp hdz, cC_arr (t := 2) hd, nat_clamp (n := n) (by omega), nat_clamp (n := L) (by omega), show (0 : Int32).toNatClampNeg = 0 by decide]
  refine (if_pos hcd).trans ?_
  exact congrArg some hput
theorem zgd_b0 : zgd .byte (0 : Int32) = some () := by decide
/-- a raw String's length and coder -/
theorem str_len {v : Nat} {l : List Int32} (hS : Str (rv0 p g) v l) : cko (cH p s g) v 19 = some () ∧ f_J9_coder E v (cH p s g) = some (0, cH p s g) ∧ f_J9_length E v (cH p s g) = some (Int32.ofNat l.length, cH p s g) ∧ ∃ a, gR (cH p s g) v 19 0 = some a ∧ lenA (cH p s g) a = some (Int32.ofNat l.length) ∧ p.2 a = none ∧ ∃ w2 f2, g.1 a = some (w2, .inl (2, l.length, .inl f2)) ∧ (∀ j c, l[j]? = some c → f2 j = c) := by
  obtain ⟨w, a, x, y, w2, f2, h1, h2, h3, h4⟩ := hS
  obtain ⟨v1, v2, v3⟩ := rv0_spec h1
  obtain ⟨a1, a2, a3⟩ := rv0_spec h2
  have k0 : cko (cH p s g) v 19 = some () := by rw [r_cko v2]; unfold cko isO; rw [v3]; rfl
  have k1 : gI (cH p s g) v 19 1 = some 0 := by rw [r_gI v2]; unfold gI gF; rw [v3]; rfl
  have k2 : gR (cH p s g) v 19 0 = some a := by rw [r_gR v2]; unfold gR gF; rw [v3]; rfl
  have k3 : lenA (cH p s g) a = some (Int32.ofNat l.length) := by rw [r_len a2]; unfold lenA; rw [a3]
  have k4 : f_J9_coder E v (cH p s g) = some (0, cH p s g) := by
    unfold f_J9_coder f_J9_coder_b0 f_J9_coder_b14
    rw [if_neg (by decide), k1, b1_some, zgd_b0, b1_some]
  refine ⟨k0, k4, ?_, a, k2, k3, a2, w2, f2, a3, h3⟩
  unfold f_J9_length f_J9_length_b0
  rw [k2, b1_some, k3, b1_some, k0, b1_some, k4, b2_some, sh0]
theorem sb_apS {K M : Nat} (T : Tr p0 g0 p s g k m) (hr : rm g0 K M) (h : Sb s b r L cap) (hbx : b < XT) {l : List Int32} (hz : cap < L + l.length → (s.1 r').1 = 0) (hrx : r' < XT) (hbr : b ≠ r') (hc : cap ≤ 5000) (hn : L + l.length ≤ 5000) (hk : k + 1 ≤ K) (hm : m + 2 * cap + 2 + (L + l.length) ≤ M) {v : Nat} (hS : Str (rv0 p0 g0) v l) : ∃ p1 s1 g1 r1 cap1, f_J8_append E (p.1 b) v (cH p s g) = some (p.1 b, cH p1 s1 g1) ∧ (∃ p2 s2 g2, sbG p0 g0 p s r r' cap (L + l.length) k m p2 s2 g2 r1 cap1 ∧ p1 = p2 ∧ s1.1 = s2.1 ∧ g1 = g2 ∧ ∀ k1 m1, Tr p0 g0 p2 s2 g2 k1 m1 → Tr p0 g0 p1 s1 g1 k1 m1) ∧ Sb s1 b r1 (L + l.length) cap1 ∧ (∀ j, j < L → s1.2.1 r1 j = s.2.1 r j) ∧ (∀ j c, l[j]? = some c → s1.2.1 r1 (L + j) = c) ∧ (∀ d, d ≠ r' → d ≠ r → d ≠ b → p1.1 d = p.1 d ∧ s1.1 d = s.1 d ∧ s1.2.1 d = s.2.1 d ∧ s1.2.2.1 d = s.2.2.1 d ∧ s1.2.2.2 d = s.2.2.2 d) ∧ p1.1 b = p.1 b := by
  have h1 := h.1
  have h5 := h.2.2.2.2.1
  have hcap := h.2.2.2.2.2
  have hp := T.1.1
  obtain ⟨v1, v2, v3, _⟩ := str_len (s := s) (E := E) (Str_mono (rv0_Tr T) hS)
  obtain ⟨p1, s1, g1, r1, cap1, e1, G1, S1, n1, B1, F1, F2⟩ := sb_ens (E := E) (need := L + l.length) (r' := r') T hr h hbx hz hrx hc hn hk hm
  obtain ⟨k1, m1, _, _, T1⟩ := sbG_Tr G1
  obtain ⟨w1, w2, _, a, w4, w5, w6, ww, f2, w7, w8⟩ := str_len (s := s1) (E := E) (Str_mono (rv0_Tr T1) hS)
  have hp1 := T1.1.1
  have S1' := S1
  obtain ⟨j1, j2, j3, j4, j5, j6, j7⟩ := S1
  have nb1 : r1 ≠ b := fun w => by rw [w, j1] at j3; cases j3
  have pb : p1.1 b = p.1 b := (F1 b hbr).1
  have e2 := c_cpX (p := p1) (s := s1) (g := g1) hp1 (d := r1) (L := L) (n := l.length) w6 w7 j3 (Nat.le_refl _) n1 (by omega)
  generalize hs2 : uA s1 r1 (fun j => if L ≤ j ∧ j < L + l.length then f2 (j - L) else s1.2.1 r1 j) = s2 at e2
  have S2 : s2.1 = s1.1 := by rw [← hs2]; rfl
  have R2 : s2.2.2 = s1.2.2 := by rw [← hs2]; rfl
  have B2 : s2.2.1 b = s1.2.1 b := by
    funext q
    rw [← hs2, uA_app, if_neg nb1.symm]
  have T2 : ∀ k1 m1, Tr p0 g0 p1 s1 g1 k1 m1 → Tr p0 g0 p1 s2 g1 k1 m1 := fun _ _ T => ⟨Kp_t T.1 S2 (by rw [R2]), T.2⟩
  have j1' : s2.1 b = (1, 18) := by rw [S2]; exact j1
  have j5' : s2.2.1 b 3 = Int32.ofNat L := by rw [B2]; exact j5
  obtain ⟨e3, T3⟩ := Tr_I (T2 _ _ T1) b 18 3 (v := Int32.ofNat (L + l.length)) j1' rfl rfl
  refine ⟨p1, uI s2 b 3 (Int32.ofNat (L + l.length)), g1, r1, cap1, ?_, ⟨p1, s1, g1, G1, rfl, S2, rfl, fun k1 m1 T => ⟨Kp_uI (T2 _ _ T).1 _ _ _, T.2⟩⟩, ⟨j1', ?_, ?_, ?_, ?_, by omega, j7⟩, fun j hj => ?_, fun j c hj => ?_, fun d d1 d2 d3 => ?_, pb⟩
  · unfold f_J8_append f_J8_append_b0 f_J7_append f_J7_append_b0 f_J7_putStringAt f_J7_putStringAt_b0 f_J7_inflateIfNeededFor f_J7_inflateIfNeededFor_b0 f_J7_inflateIfNeededFor_b21 f_J9_getBytes f_J9_getBytes_b0 f_J9_getBytes_b43
    rw [c_cko hp h1, b1_some, v1, b1_some, v3, b2_some, c_gI hp h1 rfl, h5, b1_some, c_cko hp h1, b1_some, ← Int32.ofNat_add, e1, b2_some, ← pb, c_gI hp1 j1 rfl, j5, b1_some, c_cko hp1 j1, b1_some, b1_some, if_neg (by decide), c_gI hp1 j1 rfl, j4, b1_some, w1, b1_some, w2, b2_some, if_pos rfl, b2_some, c_gR hp1 j1 rfl j2, b1_some, c_gI hp1 j1 rfl, j4, b1_some, w1, b1_some, b1_some, w2, b2_some, if_pos rfl, w4, b1_some, b1_some, w5, b1_some, shl0, e2, b1_some, b2_some, b2_some, c_gI (T2 _ _ T1).1.1 j1' rfl, j5', b1_some, ← Int32.ofNat_add, e3, b1_some, b2_some]
  · show s2.2.2.2 b 0 = _
    rw [R2]; exact j2
  · show s2.1 r1 = _
    rw [S2]; exact j3
  · rw [uI_ne _ _ (Or.inr (by decide)), B2]; exact j4
  · exact uI_s _ _ _ _
  · rw [uI_row _ nb1, ← hs2, uA_app, if_pos rfl, if_neg (by omega)]; exact B1 j hj
  · have hl : j < l.length := by
      rcases Nat.lt_or_ge j l.length with w | w
      · exact w
      · rw [List.getElem?_eq_none w] at hj; cases hj
    rw [uI_row _ nb1, ← hs2, uA_app, if_pos rfl, if_pos (by omega), show L + j - L = j by omega]; exact w8 j c hj
  · have d4 : d ≠ r1 := fun w => by
      rcases G1 with ⟨a1, _⟩ | ⟨a1, _⟩
      · exact d2 (w.trans a1)
      · exact d1 (w.trans a1)
    have x := F1 d d1
    refine ⟨x.1, ?_, ?_, ?_, ?_⟩
    · show s2.1 d = _
      rw [S2]; exact x.2.1
    · rw [uI_row _ d3, ← x.2.2.1, ← hs2]
      funext q
      rw [uA_app, if_neg d4]
    · show s2.2.2.1 d = _
      rw [R2]; exact x.2.2.2
    · show s2.2.2.2 d = _
      rw [R2]; exact F2 d d1 d3
end SB
