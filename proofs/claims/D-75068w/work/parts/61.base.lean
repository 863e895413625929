/-! first contracts of the component, over presented heaps -/
set_option maxRecDepth 100000
/-- g grew to g': at most k cells and n slots -/
def gx (g g1 : zH) (k n : Nat) : Prop := g.2.1 ≤ g1.2.1 ∧ (∀ a, a < g.2.1 → g1.1 a = g.1 a) ∧ g.2.2.1 ≤ g1.2.2.1 + k ∧ g.2.2.2 ≤ g1.2.2.2 + n
theorem gx_rfl (g : zH) : gx g g 0 0 := ⟨Nat.le_refl _, fun _ _ => rfl, Nat.le_refl _, Nat.le_refl _⟩
theorem gx_trans {g g1 g2 : zH} {k n k1 n1 : Nat} (h : gx g g1 k n) (h1 : gx g1 g2 k1 n1) : gx g g2 (k + k1) (n + n1) :=
  ⟨Nat.le_trans h.1 h1.1, fun a ha => (h1.2.1 a (Nat.lt_of_lt_of_le ha h.1)).trans (h.2.1 a ha), by have := h.2.2.1; have := h1.2.2.1; omega, by have := h.2.2.2; have := h1.2.2.2; omega⟩
theorem gx_widen {g g1 : zH} {k n k1 n1 : Nat} (h : gx g g1 k n) (hk : k ≤ k1) (hn : n ≤ n1) : gx g g1 k1 n1 := ⟨h.1, h.2.1, by have := h.2.2.1; omega, by have := h.2.2.2; omega⟩
theorem gx_add (g : zH) (x : zC) (n : Nat) : gx g (zadd g x n) 1 n := ⟨Nat.le_succ _, fun a ha => cu_ne g.1 _ (Nat.ne_of_lt ha), by show g.2.2.1 ≤ g.2.2.1 - 1 + 1; omega, by show g.2.2.2 ≤ g.2.2.2 - n + n; omega⟩
/-- nothing presented lies where new cells come -/
def okG (p : cP) (g : zH) : Prop := ∀ a, g.2.1 ≤ a → p.2 a = none
theorem okG_gx {p : cP} {g g1 : zH} {k n : Nat} (h : okG p g) (hx : gx g g1 k n) : okG p g1 := fun a ha => h a (Nat.le_trans hx.1 ha)
/-- room for k cells and n slots -/
def rm (g : zH) (k n : Nat) : Prop := k ≤ g.2.2.1 ∧ n ≤ g.2.2.2
theorem rm_gx {g g1 : zH} {k n k1 n1 : Nat} (h : rm g (k + k1) (n + n1)) (hx : gx g g1 k n) : rm g1 k1 n1 := ⟨by have := h.1; have := hx.2.2.1; omega, by have := h.2; have := hx.2.2.2; omega⟩
theorem zgd0 : zgd .boolean (0 : Int32) = some () := by decide
theorem zgd1 : zgd .boolean (1 : Int32) = some () := by decide
theorem zgdb (c : Prop) {dc : Decidable c} : zgd .boolean (if c then (1 : Int32) else 0) = some () := by
  by_cases h : c
  · rw [if_pos h]; exact zgd1
  · rw [if_neg h]; exact zgd0
theorem bnd2_some {α β γ : Type} (a : α) (b : β) (F : α → β → Option γ) : bnd2 (some (a, b)) F = F a b := rfl
theorem b_inRange (E : zE) (a b c : Int64) (h : zH) : f_X1_inRange E a b c h = some (if b ≤ a ∧ a ≤ c then (1 : Int32) else 0, h) := by
  unfold f_X1_inRange f_X1_inRange_b0 f_X1_inRange_b17 f_X1_inRange_b18
  by_cases h1 : a < b
  · rw [if_pos h1, zgd0, if_neg (fun hh => absurd h1 (Int64.not_lt.mpr hh.1))]
    rfl
  · by_cases h2 : c < a
    · rw [if_neg h1, if_pos h2, zgd0, if_neg (fun hh => absurd h2 (Int64.not_lt.mpr hh.2))]
      rfl
    · rw [if_neg h1, if_neg h2, zgd1, if_pos ⟨Int64.not_lt.mp h1, Int64.not_lt.mp h2⟩]
      rfl
/-- a list of n presented objects -/
def lst (s : cT) (c arr n : Nat) (el : Nat → Nat) : Prop := s.1 c = (1, 15) ∧ s.2.2.2 c 1 = some arr ∧ s.2.1 c 2 = Int32.ofNat n ∧ n < 1000 ∧ ∃ cap, s.1 arr = (6, cap) ∧ n ≤ cap ∧ ∀ i, i < n → s.2.2.2 arr i = some (el i)
theorem nat_clamp {n : Nat} (h : n < 2 ^ 31) : (Int32.ofNat n).toNatClampNeg = n := by
  show (Int32.ofNat n).toInt.toNat = n
  rw [Int32.toInt_ofNat_of_lt h]
  rfl
theorem i32_lt {a b : Nat} (ha : a < 2 ^ 31) (hb : b < 2 ^ 31) : Int32.ofNat a < Int32.ofNat b ↔ a < b := by
  rw [Int32.lt_iff_toInt_lt, Int32.toInt_ofNat_of_lt ha, Int32.toInt_ofNat_of_lt hb]
  exact Int.ofNat_lt
theorem i32_nneg {a : Nat} (ha : a < 2 ^ 31) : ¬ Int32.ofNat a < 0 := by
  rw [Int32.lt_iff_toInt_lt, Int32.toInt_ofNat_of_lt ha]
  simp
section LS
variable {p : cP} {s : cT} {g : zH}
theorem b_size (hp : okP p s) {c arr n : Nat} {el : Nat → Nat} (hl : lst s c arr n el) (E : zE) : f_J2_size E (p.1 c) (cH p s g) = some (Int32.ofNat n, cH p s g) := by
  unfold f_J2_size f_J2_size_b0
  rw [c_gI hp hl.1 rfl, hl.2.2.1]
  rfl
theorem b_get (hp : okP p s) {c arr n : Nat} {el : Nat → Nat} (hl : lst s c arr n el) (E : zE) {i : Nat} (hi : i < n) : f_J2_get E (p.1 c) (Int32.ofNat i) (cH p s g) = some (p.1 (el i), cH p s g) := by
  obtain ⟨h1, h2, h3, h4, cap, h5, h6, h7⟩ := hl
  have hi2 : i < 2 ^ 31 := by omega
  unfold f_J2_get f_J2_get_b0 f_J21_checkIndex f_J21_checkIndex_b0 f_J14_checkIndex f_J14_checkIndex_b0 f_J2_elementData f_J2_elementData_b0
  rw [c_gI hp h1 rfl, h3]
  show bnd2 (bnd2 (if Int32.ofNat i < 0 then _ else if Int32.ofNat i < Int32.ofNat n then _ else _) _) _ = _
  rw [if_neg (i32_nneg hi2), if_pos ((i32_lt hi2 (by omega)).mpr hi), bnd2_some, bnd2_some, c_cko hp h1]
  show bnd2 ((gR (cH p s g) (p.1 c) 15 1).bind _) _ = _
  rw [c_gR hp h1 rfl h2]
  show bnd2 ((dR (cH p s g) (p.1 arr) 4 (Int32.ofNat i)).bind _) _ = _
  rw [c_dR hp (t := 4) h5 (Or.inl rfl) (by rw [nat_clamp hi2]; exact fun h => h.elim (i32_nneg hi2) (by omega)) (by rw [nat_clamp hi2]; exact h7 i hi)]
  rfl
/-- requireIndex, requireArguments over an array of truth values that was just made -/
theorem b_reqI_l (E : zE) {q n : Nat} {f : Nat → Int32} (hq : p.2 q = none) (ha : g.1 q = some (true, .inl (3, n, .inl f))) (hn : n < 100) : ∀ (k j : Nat), j + k = n → ∀ m, k < m → (∀ i, j ≤ i → i < n → f i ≠ 0) → f_X1_requireIndex_l7 E m q (Int32.ofNat n) (Int32.ofNat j) (cH p s g) = some (.inl (), cH p s g) := by
  intro k
  induction k with
  | zero =>
    intro j hj m hm hf
    obtain ⟨m, rfl⟩ : ∃ m1, m = m1 + 1 := ⟨m - 1, by omega⟩
    unfold f_X1_requireIndex_l7
    rw [if_pos (by rw [show j = n by omega]; exact Int32.le_refl _)]
  | succ k ih =>
    intro j hj m hm hf
    obtain ⟨m, rfl⟩ : ∃ m1, m = m1 + 1 := ⟨m - 1, by omega⟩
    have hj2 : j < 2 ^ 31 := by omega
    unfold f_X1_requireIndex_l7
    rw [if_neg (by rw [Int32.not_le]; exact (i32_lt hj2 (by omega)).mpr (by omega)), r_dI hq]
    have e : dI g q 3 (Int32.ofNat j) = some (f j) := by
      unfold dI
      rw [ha]
      show (if 3 = 3 ∧ ¬ (Int32.ofNat j < 0 ∨ n ≤ (Int32.ofNat j).toNatClampNeg) then some (f (Int32.ofNat j).toNatClampNeg) else none) = _
      rw [nat_clamp hj2, if_pos ⟨rfl, fun h => h.elim (i32_nneg hj2) (by omega)⟩]
    rw [e]
    show (if f j = 0 then _ else f_X1_requireIndex_l7 E m q (Int32.ofNat n) (Int32.ofNat j + 1) (cH p s g)) = _
    rw [if_neg (hf j (Nat.le_refl _) (by omega)), show Int32.ofNat j + 1 = Int32.ofNat (j + 1) from (Int32.ofNat_add j 1).symm]
    exact ih (j + 1) (by omega) m (by omega) (fun i h1 h2 => hf i (by omega) h2)
end LS
