/-! StringBuilder: a character, a String, a number are appended; setLength -/
set_option maxRecDepth 100000
section SB
variable {p0 : cP} {g0 : zH} {p : cP} {s : cT} {g : zH} {E : zE} {b r r' L cap need k m : Nat}
theorem sb_lat (hp : okP p s) (h : Sb s b r L cap) : f_J7_isLatin1 E (p.1 b) (cH p s g) = some (1, cH p s g) := by
  obtain ⟨h1, h2, h3, h4, h5, h6, h7⟩ := h
  unfold f_J7_isLatin1 f_J7_isLatin1_b0 f_J7_isLatin1_b18
  rw [if_neg (by decide), c_gI hp h1 rfl, h4, b1_some, if_pos rfl, zgd1, b1_some]
def sbt (c : Int32) : Int32 := (c.toInt8.toInt32).toInt8.toInt32
/-- the array of bytes is written *(f)* and the length is set -/
theorem sb_put {s1 : cT} {r1 cap1 : Nat} (h : Sb s b r L cap) (hbr : b ≠ r) (f : Nat → Int32) {L1 : Nat} (hL : L1 ≤ cap) (h0 : s1.1 = s.1) (hR : s1.2.2.2 = s.2.2.2) (hI : ∀ d, d ≠ r → d ≠ b → s1.2.1 d = s.2.1 d) (hb1 : s1.2.1 b 1 = s.2.1 b 1) (hb3 : s1.2.1 b 3 = Int32.ofNat L1) : Sb s1 b r L1 cap := by
  obtain ⟨h1, h2, h3, h4, h5, h6, h7⟩ := h
  exact ⟨by rw [h0]; exact h1, by rw [hR]; exact h2, by rw [h0]; exact h3, hb1.trans h4, hb3, hL, h7⟩
theorem sb_app {K M : Nat} (T : Tr p0 g0 p s g k m) (hr : rm g0 K M) (h : Sb s b r L cap) (hbx : b < XT) (hz : cap < L + 1 → (s.1 r').1 = 0) (hrx : r' < XT) (hbr : b ≠ r') (hc : cap ≤ 5000) (hn : L + 1 ≤ 5000) (hk : k + 1 ≤ K) (hm : m + 2 * cap + 2 + (L + 1) ≤ M) {c : Int32} (hcc : ¬ (255 : Int32) < c) : ∃ p1 s1 g1 r1 cap1, f_J8_append_3 E (p.1 b) c (cH p s g) = some (p.1 b, cH p1 s1 g1) ∧ (∃ p2 s2 g2, sbG p0 g0 p s r r' cap (L + 1) k m p2 s2 g2 r1 cap1 ∧ p1 = p2 ∧ s1.1 = s2.1 ∧ g1 = g2 ∧ ∀ k1 m1, Tr p0 g0 p2 s2 g2 k1 m1 → Tr p0 g0 p1 s1 g1 k1 m1) ∧ Sb s1 b r1 (L + 1) cap1 ∧ (∀ j, j < L → s1.2.1 r1 j = s.2.1 r j) ∧ s1.2.1 r1 L = sbt c ∧ (∀ d, d ≠ r' → d ≠ r → d ≠ b → p1.1 d = p.1 d ∧ s1.1 d = s.1 d ∧ s1.2.1 d = s.2.1 d ∧ s1.2.2.1 d = s.2.2.1 d ∧ s1.2.2.2 d = s.2.2.2 d) ∧ p1.1 b = p.1 b := by
  have h1 := h.1
  have h5 := h.2.2.2.2.1
  have hcap := h.2.2.2.2.2
  have hp := T.1.1
  obtain ⟨p1, s1, g1, r1, cap1, e1, G1, S1, n1, B1, F1, F2⟩ := sb_ens (E := E) (need := L + 1) (r' := r') T hr h hbx hz hrx hc hn hk hm
  obtain ⟨k1, m1, _, _, T1⟩ := sbG_Tr G1
  have hp1 := T1.1.1
  have S1' := S1
  obtain ⟨j1, j2, j3, j4, j5, j6, j7⟩ := S1
  have nb' := hbr
  have nb1 : r1 ≠ b := fun w => by rw [w, j1] at j3; cases j3
  have pb : p1.1 b = p.1 b := (F1 b nb').1
  obtain ⟨e2, T2⟩ := Tr_I T1 b 18 3 (v := Int32.ofNat (L + 1)) j1 rfl rfl
  have j3' : (uI s1 b 3 (Int32.ofNat (L + 1))).1 r1 = (4, cap1) := j3
  have e3 := c_sI (g := g1) (p := p1) (s := uI s1 b 3 (Int32.ofNat (L + 1))) (j := Int32.ofNat L) (v := sbt c) hp1 (t := 2) j3' (Or.inr (Or.inl rfl)) (by rw [nat_clamp (by omega)]; exact fun q => q.elim (i32_nneg (by omega)) (by omega))
  rw [nat_clamp (by omega)] at e3
  refine ⟨p1, uI (uI s1 b 3 (Int32.ofNat (L + 1))) r1 L (sbt c), g1, r1, cap1, ?_, ⟨p1, s1, g1, G1, rfl, rfl, rfl, fun k1 m1 T => ⟨Kp_uI (Kp_uI T.1 _ _ _) _ _ _, T.2⟩⟩, ⟨j1, j2, j3, ?_, ?_, by omega, j7⟩, fun j hj => ?_, uI_s _ _ _ _, fun d d1 d2 d3 => ?_, pb⟩
  · unfold f_J8_append_3 f_J8_append_3_b0 f_J7_append_3 f_J7_append_3_b0 f_J7_append_3_b75
    have hce : f_J15_canEncode E c (cH p1 s1 g1) = some (1, cH p1 s1 g1) := by
      unfold f_J15_canEncode f_J15_canEncode_b0 f_J15_canEncode_b12
      rw [if_neg hcc, zgd1, b1_some]
    rw [c_cko hp h1, b1_some, c_gI hp h1 rfl, h5, b1_some, b1_some, show Int32.ofNat L + 1 = Int32.ofNat (L + 1) from (Int32.ofNat_add L 1).symm, e1, b2_some, ← pb, c_cko hp1 j1, b1_some, sb_lat hp1 S1', b2_some, if_neg (by decide), hce, b2_some, if_neg (by decide), c_gR hp1 j1 rfl j2, b1_some, c_gI hp1 j1 rfl, j5, b1_some, show Int32.ofNat L + 1 = Int32.ofNat (L + 1) from (Int32.ofNat_add L 1).symm, e2, b1_some]
    show bnd2 ((sI _ _ 2 _ (sbt c)).bind _) _ = _
    rw [e3, b1_some, b2_some]
  · rw [uI_row _ nb1.symm, uI_ne _ _ (Or.inr (by decide))]; exact j4
  · rw [uI_row _ nb1.symm, uI_s]
  · rw [uI_ne _ _ (Or.inr (by omega)), uI_row _ nb1]; exact B1 j hj
  · have d4 : d ≠ r1 := fun w => by
      rcases G1 with ⟨a1, _⟩ | ⟨a1, _⟩
      · exact d2 (w.trans a1)
      · exact d1 (w.trans a1)
    have x := F1 d d1
    exact ⟨x.1, x.2.1, by rw [uI_row _ d4, uI_row _ d3]; exact x.2.2.1, x.2.2.2, F2 d d1 d3⟩
end SB
