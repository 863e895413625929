/-! StringBuilder, presented: length, charAt; formattedByte -/
set_option maxRecDepth 100000
/-- a StringBuilder (Latin 1) under b, its bytes under r: L of cap -/
def Sb (s : cT) (b r L cap : Nat) : Prop := s.1 b = (1, 18) ∧ s.2.2.2 b 0 = some r ∧ s.1 r = (4, cap) ∧ s.2.1 b 1 = 0 ∧ s.2.1 b 3 = Int32.ofNat L ∧ L ≤ cap ∧ cap < 100000
theorem sh0 (x : Int32) : x >>> ((0 : Int32) &&& 31) = x := by
  rw [show (0 : Int32) &&& 31 = 0 by decide]
  exact Int32.shiftRight_zero
theorem shl0 (x : Int32) : x <<< ((0 : Int32) &&& 31) = x := by
  rw [show (0 : Int32) &&& 31 = 0 by decide]
  exact Int32.shiftLeft_zero
theorem byt : ∀ k, k < 128 → ((Int32.ofNat k &&& (255 : Int32)).toUInt32 % 65536).toInt32 = Int32.ofNat k ∧ zgd .char (Int32.ofNat k) = some () := by decide +kernel
section SB
variable {p : cP} {s : cT} {g : zH} {E : zE} {b r L cap : Nat}
theorem sb_len (hp : okP p s) (h : Sb s b r L cap) : f_J8_length E (p.1 b) (cH p s g) = some (Int32.ofNat L, cH p s g) := by
  unfold f_J8_length f_J8_length_b0 f_J7_length f_J7_length_b0
  rw [c_cko hp h.1, b1_some, c_gI hp h.1 rfl, h.2.2.2.2.1, b1_some, b2_some]
theorem sb_char (hp : okP p s) (h : Sb s b r L cap) {j k : Nat} (hj : j < L) (hk : k < 128) (hb : s.2.1 r j = Int32.ofNat k) : f_J8_charAt E (p.1 b) (Int32.ofNat j) (cH p s g) = some (Int32.ofNat k, cH p s g) := by
  obtain ⟨h1, h2, h3, h4, h5, h6, h7⟩ := h
  obtain ⟨y1, y2⟩ := byt k hk
  have hmin : f_J12_min E (Int32.ofNat L) (Int32.ofNat cap) (cH p s g) = some (Int32.ofNat L, cH p s g) := by
    unfold f_J12_min f_J12_min_b0 f_J12_min_b10
    rw [if_neg (fun q => by rw [i32_lt (by omega) (by omega)] at q; omega)]
  have hci : f_J9_checkIndex E (Int32.ofNat j) (Int32.ofNat L) (cH p s g) = some ((), cH p s g) := by
    unfold f_J9_checkIndex f_J9_checkIndex_b0 f_J14_checkIndex f_J14_checkIndex_b0
    rw [if_neg (i32_nneg (by omega)), if_pos ((i32_lt (by omega) (by omega)).mpr hj)]
    rfl
  unfold f_J8_charAt f_J8_charAt_b0 f_J7_charAt f_J7_charAt_b0
  rw [c_cko hp h1, b1_some, c_gI hp h1 rfl, h4, b1_some, c_gR hp h1 rfl h2, b1_some, c_gI hp h1 rfl, h5, b1_some, c_len hp (t := 2) h3, b1_some, sh0, hmin, b2_some, hci, b2_some, if_pos rfl, c_dI hp (t := 2) h3 (Or.inr (Or.inl rfl)) (by rw [nat_clamp (by omega)]; exact fun q => q.elim (i32_nneg (by omega)) (by omega)), nat_clamp (by omega), b1_some, hb, y1, y2, b1_some, b2_some, y2, b1_some]
end SB
/-- the text that was formatted -/
def Fo (s : cT) (t : twS) : Prop := ∃ r L cap, Sb s 24 r L cap ∧ tSc t 7 = Int32.ofNat L ∧ L ≤ 300 ∧ ∀ j, j < L → s.2.1 r j = t.2.2.1 6 j ∧ ∃ k, k < 128 ∧ t.2.2.1 6 j = Int32.ofNat k
section WO
variable {Y : cT → (Nat → Option zC) → twS → Prop} {E : zE} {q x a c n : Nat} {H : zH} {t : twS} {p : cP} {s : cT} {N : iN} {mo nb : Nat}
theorem W_formattedByte (hY : stY Y) (hF : ∀ s v t, Y s v t → Fo s t) (h : Wo (XX Y) q x a (c + 1) n H t p s N mo nb) (p1 : Int32) : ∃ r H1 t1, f_X1_formattedByte E x p1 H = some (r, H1) ∧ t_X6_formattedByte E p1 t = some (r, t1) ∧ Wd (XX Y) q x a c H1 t1 := by
  have hw := Wo_thr (stb_XX hY) h 0
  obtain ⟨r, L, cap, f1, f2, f3, f4⟩ := hF s _ t h.2.2.2.2.2.2.2
  obtain ⟨⟨w1, w2, w3, w4⟩, -⟩ := h
  have iX := w3.2.2.1
  have key : ∀ r, f_X1_formattedByte E (p.1 1) p1 (cH p s H) = some (r, cH p s H) → t_X6_formattedByte E p1 t = some (r, uSc t 2 0) → ∃ r H1 t1, f_X1_formattedByte E x p1 H = some (r, H1) ∧ t_X6_formattedByte E p1 t = some (r, t1) ∧ Wd (XX Y) q x a c H1 t1 := fun r h1 h2 => by
    rw [w2, w4] at h1
    exact ⟨r, H, uSc t 2 0, h1, h2, n + 1, p, s, N, mo, nb, hw⟩
  have inL : ((0 : Int64) ≤ p1.toInt64 ∧ p1.toInt64 ≤ (Int32.ofNat L - 1).toInt64) ↔ inF p1 L := inF_iff p1 (by omega)
  have e7 : tSc (uSc t 2 (0 : Int32)) 7 = Int32.ofNat L := f2
  by_cases hc : inF p1 L
  · obtain ⟨ep, hj⟩ := inF_nat hc
    have hc2 := inL.mpr hc
    generalize p1.toNatClampNeg = j at ep hj
    obtain ⟨g1, k, g2, g3⟩ := f4 j hj
    refine key (Int32.ofNat k) ?_ ?_
    · unfold f_X1_formattedByte f_X1_formattedByte_b0 f_X1_formattedByte_b31
      rw [c_gR w1.1 iX.1 rfl iX.2.2.2.2.2.2.1, b1_some, c_cko w1.1 f1.1, b1_some, sb_len w1.1 f1, b2_some, b_inRange, b2_some, if_pos hc2, if_neg (by decide), c_gR w1.1 iX.1 rfl iX.2.2.2.2.2.2.1, b1_some, c_cko w1.1 f1.1, b1_some, ep, sb_char w1.1 f1 hj g2 (g1.trans g3), b2_some]
    · unfold t_X6_formattedByte t_X6_formattedByte_b0 t_X6_formattedByte_b31
      have ed : tdI (uSc t 2 (0 : Int32)) 6 2 (Int32.ofNat j) = some (t.2.2.1 6 j) := by
        show (if 2 = 2 ∧ ¬ (Int32.ofNat j < 0 ∨ 300 ≤ (Int32.ofNat j).toNatClampNeg) then some (t.2.2.1 6 (Int32.ofNat j).toNatClampNeg) else none) = _
        rw [nat_clamp (by omega), if_pos ⟨rfl, fun q => q.elim (i32_nneg (by omega)) (by omega)⟩]
      rw [e7, y_inRange, b2_some, if_pos hc2, if_neg (by decide), ep, ed, b1_some, g3]
  · have hc2 : ¬ ((0 : Int64) ≤ p1.toInt64 ∧ p1.toInt64 ≤ (Int32.ofNat L - 1).toInt64) := fun w => hc (inL.mp w)
    refine key (-1) ?_ ?_
    · unfold f_X1_formattedByte f_X1_formattedByte_b0 f_X1_formattedByte_b31
      rw [c_gR w1.1 iX.1 rfl iX.2.2.2.2.2.2.1, b1_some, c_cko w1.1 f1.1, b1_some, sb_len w1.1 f1, b2_some, b_inRange, b2_some, if_neg hc2, if_pos rfl]
    · unfold t_X6_formattedByte t_X6_formattedByte_b0 t_X6_formattedByte_b31
      rw [e7, y_inRange, b2_some, if_neg hc2, if_pos rfl]
end WO
