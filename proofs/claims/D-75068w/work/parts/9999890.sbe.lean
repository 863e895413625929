/-! StringBuilder: room is made; a character is appended -/
set_option maxRecDepth 100000
section SB
variable {p0 : cP} {g0 : zH} {p : cP} {s : cT} {g : zH} {E : zE} {b r r' L cap need k m : Nat}
/-- what making room keeps *(r': the code for a longer array)* -/
def sbG (p0 : cP) (g0 : zH) (p : cP) (s : cT) (r r' cap need k m : Nat) (p1 : cP) (s1 : cT) (g1 : zH) (r1 cap1 : Nat) : Prop := r1 = r ∧ cap1 = cap ∧ p1 = p ∧ s1 = s ∧ Tr p0 g0 p1 s1 g1 k m ∨ r1 = r' ∧ cap < need ∧ 2 * cap ≤ cap1 ∧ cap1 ≤ 2 * cap + 2 + need ∧ Tr p0 g0 p1 s1 g1 (k + 1) (m + cap1)
def sbF (p : cP) (s : cT) (b r' : Nat) (p1 : cP) (s1 : cT) : Prop := (∀ d, d ≠ r' → p1.1 d = p.1 d ∧ s1.1 d = s.1 d ∧ s1.2.1 d = s.2.1 d ∧ s1.2.2.1 d = s.2.2.1 d) ∧ ∀ d, d ≠ r' → d ≠ b → s1.2.2.2 d = s.2.2.2 d
theorem sbG_Tr {p0 p p1 : cP} {g0 g1 : zH} {s s1 : cT} {r r' cap need k m r1 cap1 : Nat} (h : sbG p0 g0 p s r r' cap need k m p1 s1 g1 r1 cap1) : ∃ k1 m1, k1 ≤ k + 1 ∧ m1 ≤ m + cap1 ∧ Tr p0 g0 p1 s1 g1 k1 m1 := by
  rcases h with ⟨h1, h2, _, _, h3⟩ | ⟨h1, _, h2, h3, h4⟩
  · exact ⟨k, m, by omega, by omega, h3⟩
  · exact ⟨k + 1, m + cap1, by omega, by omega, h4⟩
theorem sb_ens {K M : Nat} (T : Tr p0 g0 p s g k m) (hr : rm g0 K M) (h : Sb s b r L cap) (hbx : b < XT) (hz : cap < need → (s.1 r').1 = 0) (hrx : r' < XT) (hc : cap ≤ 5000) (hn : need ≤ 5000) (hk : k + 1 ≤ K) (hm : m + 2 * cap + 2 + need ≤ M) : ∃ p1 s1 g1 r1 cap1, f_J7_ensureCapacityInternal E (p.1 b) (Int32.ofNat need) (cH p s g) = some ((), cH p1 s1 g1) ∧ sbG p0 g0 p s r r' cap need k m p1 s1 g1 r1 cap1 ∧ Sb s1 b r1 L cap1 ∧ need ≤ cap1 ∧ (∀ j, j < L → s1.2.1 r1 j = s.2.1 r j) ∧ sbF p s b r' p1 s1 := by
  have hSb := h
  obtain ⟨h1, h2, h3, h4, h5, h6, h7⟩ := h
  have hp := T.1.1
  have cnd : Int32.ofNat need - Int32.ofNat cap ≤ 0 ↔ need ≤ cap := by
    rw [Int32.le_iff_toInt_le, Int32.toInt_sub, i32_toInt (by omega), i32_toInt (by omega), Int.bmod_eq_of_le (by omega) (by omega)]
    show (need : Int) - cap ≤ 0 ↔ _
    omega
  unfold f_J7_ensureCapacityInternal f_J7_ensureCapacityInternal_b0 f_J7_ensureCapacityInternal_b38
  rw [c_gR hp h1 rfl h2, b1_some, c_len hp (t := 2) h3, b1_some, c_gI hp h1 rfl, h4, b1_some, sh0]
  by_cases q : need ≤ cap
  · rw [if_pos (cnd.mpr q)]
    exact ⟨p, s, g, r, cap, rfl, Or.inl ⟨rfl, rfl, rfl, rfl, T⟩, hSb, q, fun _ _ => rfl, fun _ _ => ⟨rfl, rfl, rfl, rfl⟩, fun _ _ _ => rfl⟩
  · rw [if_neg (fun w => q (cnd.mp w))]
    have hz := hz (by omega)
    have nrb : b ≠ r' := fun w => by rw [w] at h1; rw [h1] at hz; cases hz
    have nrr : r ≠ r' := fun w => by rw [w] at h3; rw [h3] at hz; cases hz
    generalize hw : (if need - cap < cap + 2 then cap + (cap + 2) else need) = w
    have hw1 : need ≤ w ∧ cap < w ∧ 2 * cap ≤ w ∧ w ≤ 2 * cap + 2 + need := by rw [← hw]; split <;> omega
    have hnl : ∀ hh : zH, f_J11_newLength E (Int32.ofNat cap) (Int32.ofNat need - Int32.ofNat cap) (Int32.ofNat cap + (2 : Int32)) hh = some (Int32.ofNat w, hh) := fun hh => by
      have e1 : Int32.ofNat need - Int32.ofNat cap = Int32.ofNat (need - cap) := i32_sub (by omega) (by omega)
      have e2 : Int32.ofNat cap + (2 : Int32) = Int32.ofNat (cap + 2) := (Int32.ofNat_add cap 2).symm
      have fin : ∀ y : Nat, cap + y = w → (if Int32.ofNat cap + Int32.ofNat y ≤ (0 : Int32) then f_J11_newLength_b21 E (Int32.ofNat cap) (Int32.ofNat (need - cap)) hh else if (2147483639 : Int32) < Int32.ofNat cap + Int32.ofNat y then f_J11_newLength_b21 E (Int32.ofNat cap) (Int32.ofNat (need - cap)) hh else some (Int32.ofNat cap + Int32.ofNat y, hh)) = some (Int32.ofNat w, hh) := fun y hy => by
        rw [← Int32.ofNat_add, hy, if_neg (show ¬ Int32.ofNat w ≤ 0 from fun z => by rw [show (0 : Int32) = Int32.ofNat 0 from rfl, i32_le (by omega) (by decide)] at z; omega), if_neg (show ¬ (2147483639 : Int32) < Int32.ofNat w from fun z => by rw [show (2147483639 : Int32) = Int32.ofNat 2147483639 from rfl, i32_lt (by decide) (by omega)] at z; omega)]
      rw [e1, e2]
      unfold f_J11_newLength f_J11_newLength_b0 f_J12_max f_J12_max_b0 f_J12_max_b10
      by_cases z : need - cap < cap + 2
      · rw [if_pos ((i32_lt (by omega) (by omega)).mpr z), b2_some]
        exact fin _ (by rw [← hw, if_pos z])
      · rw [if_neg (fun y => z ((i32_lt (by omega) (by omega)).mp y)), b2_some]
        exact fin _ (by rw [← hw, if_neg z]; omega)
    have hmx : ¬ Int32.ofNat w = (2147483647 : Int32) := fun z => by
      rw [show (2147483647 : Int32) = Int32.ofNat 2147483647 from rfl, i32_eq (by omega) (by decide)] at z
      omega
    have hnc : f_J7_newCapacity E (p.1 b) (Int32.ofNat need) (cH p s g) = some (Int32.ofNat w, cH p s g) := by
      unfold f_J7_newCapacity f_J7_newCapacity_b0
      rw [c_gR hp h1 rfl h2, b1_some, c_len hp (t := 2) h3, b1_some, c_gI hp h1 rfl, h4, b1_some, b1_some, shl0, shl0, hnl, b2_some, if_neg hmx, c_gI hp h1 rfl, h4, b1_some, sh0]
    obtain ⟨e1, T1⟩ := Tr_arr (x := Int32.ofNat w) (d := .inl fun _ => 0) T hr r' 2 w hk (by omega) (by omega) rfl rfl hz hrx
    generalize hp1 : pA p r' g.2.1 = p1 at e1 T1
    generalize hs1 : sNw s r' (2 + 2, w) = s1 at e1 T1
    generalize hg1 : zadd g (true, .inl (2, w, .inl fun _ => 0)) w = g1 at e1 T1
    have f1 : ∀ d, d ≠ r' → p1.1 d = p.1 d ∧ s1.1 d = s.1 d ∧ s1.2.1 d = s.2.1 d ∧ s1.2.2.1 d = s.2.2.1 d ∧ s1.2.2.2 d = s.2.2.2 d := fun d hd => by
      rw [← hp1, ← hs1]
      exact ⟨cu_ne p.1 _ hd, sNw_o s hd _⟩
    have q1 : p1.1 r' = g.2.1 := by rw [← hp1]; exact cu_same _ _ _
    have c1 : s1.1 r' = (4, w) := by rw [← hs1]; exact cu_same _ _ _
    have ar := f1 r nrr
    have ab := f1 b nrb
    have e2 := c_cpB (p := p1) (s := s1) (g := g1) T1.1.1 (c := r) (d := r') (n0 := cap) (n1 := w) (n := cap) (ar.2.1.trans h3) c1 (Nat.le_refl _) (by omega) (by omega)
    generalize hs2 : uA s1 r' (fun j => if j < cap then s1.2.1 r j else s1.2.1 r' j) = s2 at e2
    have S2 : s2.1 = s1.1 := by rw [← hs2]; rfl
    have R2 : s2.2.2.2 = s1.2.2.2 := by rw [← hs2]; rfl
    have T2 : Tr p0 g0 p1 s2 g1 (k + 1) (m + w) := ⟨Kp_t T1.1 S2 R2, T1.2⟩
    have fr := Kp_fr T.1 hz hrx
    obtain ⟨e3, T3⟩ := Tr_R T2 b 18 0 r' (a := p.1 b) (b := g.2.1) (by rw [S2]; exact ab.2.1.trans h1) rfl hbx ab.1 q1 (Or.inl (by rw [S2, c1]; exact Nat.succ_ne_zero _)) (fun z => absurd z (by rw [S2, c1]; exact (show ¬ (4 : Nat) = 6 by decide)))
    have hmin : f_J12_min E (Int32.ofNat cap) (Int32.ofNat w) (cH p1 s1 g1) = some (Int32.ofNat cap, cH p1 s1 g1) := by
      unfold f_J12_min f_J12_min_b0 f_J12_min_b10
      rw [if_neg (fun z => by rw [i32_lt (by omega) (by omega)] at z; omega)]
    have hcp : f_J13_copyOf E (p.1 r) (Int32.ofNat w) (cH p s g) = some (g.2.1, cH p1 s2 g1) := by
      unfold f_J13_copyOf f_J13_copyOf_b0
      rw [c_len hp (t := 2) h3, b1_some, if_neg (fun z => by rw [i32_eq (by omega) (by omega)] at z; omega), e1, b2_some, ← ar.1, c_len T1.1.1 (t := 2) (ar.2.1.trans h3), b1_some, hmin, b2_some, ← q1, e2, b1_some]
    refine ⟨p1, _, g1, r', w, ?_, Or.inr ⟨rfl, by omega, hw1.2.2.1, hw1.2.2.2, T3⟩, ⟨by rw [uR_S, S2]; exact ab.2.1.trans h1, uR_s _ _ _ _, by rw [uR_S, S2]; exact c1, ?_, ?_, by omega, by omega⟩, hw1.1, fun j hj => ?_, fun d hd => ⟨(f1 d hd).1, by rw [uR_S, S2]; exact (f1 d hd).2.1, ?_, ?_⟩, fun d hd hdb => ?_⟩
    · rw [b1_some, c_cko hp h1, b1_some, hnc, b2_some, c_gI hp h1 rfl, h4, b1_some, shl0, hcp, b2_some, e3, b1_some]
    · rw [uR_I, ← hs2, uA_app, if_neg nrb, ab.2.2.1]; exact h4
    · rw [uR_I, ← hs2, uA_app, if_neg nrb, ab.2.2.1]; exact h5
    · rw [uR_I, ← hs2, uA_app, if_pos rfl, if_pos (by omega), ar.2.2.1]
    · funext j
      rw [uR_I, ← hs2, uA_app, if_neg hd, (f1 d hd).2.2.1]
    · rw [uR_L, ← hs2, uA_L, (f1 d hd).2.2.2.1]
    · funext j
      rw [uR_app, if_neg (by omega), R2, (f1 d hd).2.2.2.2]
end SB
