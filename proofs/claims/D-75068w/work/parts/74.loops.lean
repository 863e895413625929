/-! loops; sums over cells and lists-/
set_option maxRecDepth 100000
theorem w_lp {σ R : Type} {L : Nat → Int32 → σ → Option R} {n : Nat} (hn : n < 2 ^ 31) {Inv : Nat → σ → Prop} {Q : R → Prop} (hs : ∀ m j a, j < n → Inv j a → (∀ b, Inv (j + 1) b → Ww (L m (Int32.ofNat (j + 1)) b) Q) → Ww (L (m + 1) (Int32.ofNat j) a) Q) (he : ∀ m a, Inv n a → Ww (L (m + 1) (Int32.ofNat n) a) Q) : ∀ k j m a, j + k = n → k < m → Inv j a → Ww (L m (Int32.ofNat j) a) Q := by
  intro k
  induction k with
  | zero =>
    intro j m a hj hm hi
    obtain ⟨m, rfl⟩ : ∃ m1, m = m1 + 1 := ⟨m - 1, by omega⟩
    have e : j = n := by omega
    subst e
    exact he m a hi
  | succ k ih =>
    intro j m a hj hm hi
    obtain ⟨m, rfl⟩ : ∃ m1, m = m1 + 1 := ⟨m - 1, by omega⟩
    exact hs m j a (by omega) hi fun b hb => ih (j + 1) m b (by omega) (by omega) hb
theorem w_eq {α : Type} {m : Option α} {x : α} : Ww m (fun z => z = x) ↔ m = some x := ⟨fun h => by obtain ⟨y, e, q⟩ := h; rw [e, q], fun h => ⟨x, h, rfl⟩⟩
def sm (F : Nat → Int32) : Nat → Int32
  | 0 => 0
  | j + 1 => sm F j + F j
def sml (F : Nat → Int64) : Nat → Int64
  | 0 => 0
  | j + 1 => sml F j + F j
theorem sm_cg {F G : Nat → Int32} : ∀ {n : Nat}, (∀ i, i < n → F i = G i) → sm F n = sm G n := by
  intro n
  induction n with
  | zero => intro _; rfl
  | succ n ih =>
    intro h
    show sm F n + F n = sm G n + G n
    rw [ih (fun i hi => h i (by omega)), h n (by omega)]
theorem sml_cg {F G : Nat → Int64} : ∀ {n : Nat}, (∀ i, i < n → F i = G i) → sml F n = sml G n := by
  intro n
  induction n with
  | zero => intro _; rfl
  | succ n ih =>
    intro h
    show sml F n + F n = sml G n + G n
    rw [ih (fun i hi => h i (by omega)), h n (by omega)]
theorem le_ofn {n j : Nat} (hn : n < 2 ^ 31) (hj : j < n) : ¬ Int32.ofNat n ≤ Int32.ofNat j := by rw [i32_le hn (by omega)]; omega
theorem le900 {j : Nat} (hj : j < 900) : ¬ (900 : Int32) ≤ Int32.ofNat j := le_ofn (n := 900) (by decide) hj
theorem re900 : (900 : Int32) ≤ Int32.ofNat 900 := Int32.le_refl _
theorem le4 {j : Nat} (hj : j < 4) : ¬ (4 : Int32) ≤ Int32.ofNat j := le_ofn (n := 4) (by decide) hj
theorem re4 : (4 : Int32) ≤ Int32.ofNat 4 := Int32.le_refl _
theorem le58 {j : Nat} (hj : j < 58) : ¬ (58 : Int32) ≤ Int32.ofNat j := le_ofn (n := 58) (by decide) hj
theorem re58 : (58 : Int32) ≤ Int32.ofNat 58 := Int32.le_refl _
section LC
variable {E : zE} {N : iN} {s : cT} {g : zH}
theorem x_area (hE : 1000 ≤ E.1) (f : Int32) : c_X5_area E N f s g = some (sm (fun c => bi (s.2.1 (N.1 + 16) c = f)) 900, (s, g)) := by
  rw [← w_eq]
  unfold c_X5_area c_X5_area_b0
  refine w_lp (L := fun m i a => c_X5_area_l4 E N m f a i s g) (n := 900) (by decide) (Inv := fun j a => a = sm (fun c => bi (s.2.1 (N.1 + 16) c = f)) j) (fun m j a hj ha k => ?_) (fun m a ha => ?_) 900 0 E.1 0 rfl (by omega) rfl
  · show Ww (c_X5_area_l4 E N (m + 1) f a (Int32.ofNat j) s g) _
    unfold c_X5_area_l4 c_X5_area_b27
    rw [if_neg (le900 hj), cdI_of hj (by decide), b1_some, i32_s]
    by_cases h : s.2.1 (N.1 + 16) j = f
    · rw [if_pos h]
      exact k _ (by show a + 1 = sm _ j + bi _; rw [bi_t h, ha])
    · rw [if_neg h]
      exact k _ (by show a + 0 = sm _ j + bi _; rw [bi_f h, ha])
  · show Ww (c_X5_area_l4 E N (m + 1) f a (Int32.ofNat 900) s g) _
    unfold c_X5_area_l4
    rw [if_pos (re900), w_some, ha]
end LC
section LTT
variable {E : zE} {t : twS}
theorem y_area (hE : 1000 ≤ E.1) (f : Int32) : t_X6_areaOf E f t = some (sm (fun c => bi (t.1 (250 + c) = f.toInt64)) 900, t) := by
  rw [← w_eq]
  unfold t_X6_areaOf t_X6_areaOf_b0
  refine w_lp (L := fun m i a => t_X6_areaOf_l4 E m f a i t) (n := 900) (by decide) (Inv := fun j a => a = sm (fun c => bi (t.1 (250 + c) = f.toInt64)) j) (fun m j a hj ha k => ?_) (fun m a ha => ?_) 900 0 E.1 0 rfl (by omega) rfl
  · show Ww (t_X6_areaOf_l4 E (m + 1) f a (Int32.ofNat j) t) _
    unfold t_X6_areaOf_l4 t_X6_areaOf_b33
    rw [if_neg (le900 hj), y_cell hj, b1_some, i32_s]
    by_cases h : t.1 (250 + j) = f.toInt64
    · rw [if_pos h]
      exact k _ (by show a + 1 = sm _ j + bi _; rw [bi_t h, ha])
    · rw [if_neg h]
      exact k _ (by show a + 0 = sm _ j + bi _; rw [bi_f h, ha])
  · show Ww (t_X6_areaOf_l4 E (m + 1) f a (Int32.ofNat 900) t) _
    unfold t_X6_areaOf_l4
    rw [if_pos (re900), w_some, ha]
end LTT
