/-! distances on the grid, nearest outlets-/
set_option maxRecDepth 100000
def ad (a b : Nat) : Nat := (a - b) + (b - a)
/-- distance of two cells -/
def ds (e c : Nat) : Nat := ad (e % 30) (c % 30) + ad (e / 30) (c / 30)
theorem ds_le {e c : Nat} (he : e < 900) (hc : c < 900) : ds e c ≤ 58 := by unfold ds ad; omega
theorem ad_comm (a b : Nat) : ad a b = ad b a := by unfold ad; omega
theorem ds_comm (a b : Nat) : ds a b = ds b a := by unfold ds; rw [ad_comm, ad_comm (a / 30)]
theorem i32_subI {a b : Nat} (ha : a < 2 ^ 30) (hb : b < 2 ^ 30) : (Int32.ofNat a - Int32.ofNat b).toInt = (a : Int) - b := by
  rw [Int32.toInt_sub, i32_toInt (by omega), i32_toInt (by omega), Int.bmod_eq_of_le (by omega) (by omega)]
theorem i32_abs {a b : Nat} (ha : a < 2 ^ 30) (hb : b < 2 ^ 30) : (if 0 ≤ Int32.ofNat a - Int32.ofNat b then Int32.ofNat a - Int32.ofNat b else -(Int32.ofNat a - Int32.ofNat b)) = Int32.ofNat (ad a b) := by
  have h := i32_subI ha hb
  have h0 : (0 ≤ Int32.ofNat a - Int32.ofNat b) ↔ b ≤ a := by
    rw [Int32.le_iff_toInt_le, h]
    show (0 : Int) ≤ _ ↔ _
    omega
  by_cases c : b ≤ a
  · rw [if_pos (h0.mpr c), i32_sub c (by omega)]
    congr 1
    unfold ad
    omega
  · rw [if_neg (fun q => c (h0.mp q))]
    rw [← Int32.toInt_inj, Int32.toInt_neg, h, i32_toInt (by unfold ad; omega), Int.bmod_eq_of_le (by omega) (by omega)]
    unfold ad
    omega
/-- the least distance of open outlets (of f; -1: of all) to a cell; 1000 for none -/
def NE (s : cT) (o c : Nat) (f : Int32) : Nat → Nat
  | 0 => 1000
  | j + 1 => if ¬ s.2.1 (o + 170 + j) 1 = -1 ∧ (f = -1 ∨ s.2.1 (o + 170 + j) 1 = f) then min (NE s o c f j) (ds (s.2.1 (o + 170 + j) 0).toNatClampNeg c) else NE s o c f j
theorem NE_le (s : cT) (o c : Nat) (f : Int32) : ∀ j, NE s o c f j ≤ 1000
  | 0 => Nat.le_refl _
  | j + 1 => by
    have := NE_le s o c f j
    unfold NE
    split <;> omega
theorem NE_s {s : cT} {o c : Nat} {f : Int32} {j : Nat} (h : ¬ s.2.1 (o + 170 + j) 1 = -1 ∧ (f = -1 ∨ s.2.1 (o + 170 + j) 1 = f)) : NE s o c f (j + 1) = min (NE s o c f j) (ds (s.2.1 (o + 170 + j) 0).toNatClampNeg c) := if_pos h
theorem NE_n {s : cT} {o c : Nat} {f : Int32} {j : Nat} (h : ¬ (¬ s.2.1 (o + 170 + j) 1 = -1 ∧ (f = -1 ∨ s.2.1 (o + 170 + j) 1 = f))) : NE s o c f (j + 1) = NE s o c f j := if_neg h
/-- 1000 is none, in the twin -1 -/
def nn (x : Nat) : Int32 := if x = 1000 then -1 else Int32.ofNat x
section LC
variable {E : zE} {N : iN} {s : cT} {g : zH}
theorem x_ds {e c : Nat} (he : e < 900) (hc : c < 900) : c_X1_distance_2 E N (Int32.ofNat e) (Int32.ofNat c) s g = some (Int32.ofNat (ds e c), (s, g)) := by
  unfold c_X1_distance_2 c_X1_distance_2_b0
  rw [x_col (by omega), b2_some, x_col (by omega), b2_some, x_abs, b2_some, x_row (by omega), b2_some, x_row (by omega), b2_some, x_abs, b2_some]
  show some ((if 0 ≤ Int32.ofNat (e % 30) - Int32.ofNat (c % 30) then Int32.ofNat (e % 30) - Int32.ofNat (c % 30) else -(Int32.ofNat (e % 30) - Int32.ofNat (c % 30))) + (if 0 ≤ Int32.ofNat (e / 30) - Int32.ofNat (c / 30) then Int32.ofNat (e / 30) - Int32.ofNat (c / 30) else -(Int32.ofNat (e / 30) - Int32.ofNat (c / 30))), (s, g)) = _
  rw [i32_abs (by omega) (by omega), i32_abs (by omega) (by omega), ← Int32.ofNat_add]
  rfl
theorem x_NE (hE : 1000 ≤ E.1) (hN : N.2.2.1 ≤ 16) (hc : ∀ k, k < N.2.2.1 → ∃ e, e < 900 ∧ s.2.1 (N.1 + 170 + k) 0 = Int32.ofNat e) {c : Nat} (hcc : c < 900) (f : Int32) : c_X4_nearest E N (Int32.ofNat c) f s g = some (Int32.ofNat (NE s N.1 c f N.2.2.1), (s, g)) := by
  rw [← w_eq]
  unfold c_X4_nearest c_X4_nearest_b0
  refine w_lp (L := fun m i a => c_X4_nearest_l7 E N m (Int32.ofNat c) f a i s g) (n := N.2.2.1) (by omega) (Inv := fun j a => a = Int32.ofNat (NE s N.1 c f j)) (fun m j a hj ha k => ?_) (fun m a ha => ?_) N.2.2.1 0 E.1 (1000 : Int32) (by omega) (by omega) rfl
  · show Ww (c_X4_nearest_l7 E N (m + 1) (Int32.ofNat c) f a (Int32.ofNat j) s g) _
    have key : ∀ b, b = Int32.ofNat (NE s N.1 c f (j + 1)) → Ww (c_X4_nearest_l7 E N m (Int32.ofNat c) f b (Int32.ofNat (j + 1)) s g) (fun z => z = (Int32.ofNat (NE s N.1 c f N.2.2.1), (s, g))) := k
    obtain ⟨e, he, h0⟩ := hc j hj
    have hle := NE_le s N.1 c f j
    have hd := ds_le he hcc
    have take : (¬ s.2.1 (N.1 + 170 + j) 1 = -1 ∧ (f = -1 ∨ s.2.1 (N.1 + 170 + j) 1 = f)) → Ww (c_X4_nearest_b59 E N (c_X4_nearest_l7 E N m) (Int32.ofNat c) f a (Int32.ofNat j) j s g) (fun z => z = (Int32.ofNat (NE s N.1 c f N.2.2.1), (s, g))) := fun hh => by
      unfold c_X4_nearest_b59 c_X4_nearest_b73
      rw [h0, x_ds he hcc, b2_some, x_min, b2_some, i32_s]
      refine key _ ?_
      show (if Int32.ofNat (ds e c) < a then Int32.ofNat (ds e c) else a) = _
      rw [ha, NE_s hh, h0, nat_clamp (by omega)]
      by_cases q : ds e c < NE s N.1 c f j
      · rw [if_pos ((i32_lt (by omega) (by omega)).mpr q), Nat.min_eq_right (by omega)]
      · rw [if_neg (fun q1 => q ((i32_lt (by omega) (by omega)).mp q1)), Nat.min_eq_left (by omega)]
    have skip : ¬ (¬ s.2.1 (N.1 + 170 + j) 1 = -1 ∧ (f = -1 ∨ s.2.1 (N.1 + 170 + j) 1 = f)) → Ww (c_X4_nearest_b73 E N (c_X4_nearest_l7 E N m) (Int32.ofNat c) f a (Int32.ofNat j) s g) (fun z => z = (Int32.ofNat (NE s N.1 c f N.2.2.1), (s, g))) := fun hh => by
      unfold c_X4_nearest_b73
      rw [i32_s]
      refine key _ ?_
      rw [ha]
      conv => rhs; unfold NE
      rw [if_neg hh]
    unfold c_X4_nearest_l7
    rw [if_neg (le_ofn (by omega) hj), cGet_of hj (by omega), b1_some, x_isOp, b2_some]
    by_cases h1 : s.2.1 (N.1 + 170 + j) 1 = -1
    · rw [if_pos (bi_f (fun q => q h1))]
      exact skip (fun q => q.1 h1)
    · rw [if_neg (by rw [bi_t h1]; decide)]
      by_cases h2 : f = -1
      · rw [if_pos h2]
        exact take ⟨h1, Or.inl h2⟩
      · rw [if_neg h2]
        by_cases h3 : s.2.1 (N.1 + 170 + j) 1 = f
        · rw [if_pos h3]
          exact take ⟨h1, Or.inr h3⟩
        · rw [if_neg h3]
          exact skip (fun q => q.2.elim h2 h3)
  · show Ww (c_X4_nearest_l7 E N (m + 1) (Int32.ofNat c) f a (Int32.ofNat N.2.2.1) s g) _
    unfold c_X4_nearest_l7
    rw [if_pos (Int32.le_refl _), w_some, ha]
end LC
section LTT
variable {E : zE} {t : twS} {s : cT} {o nf no mo : Nat}
theorem y_apart {x y c : Nat} (hx : x < 30) (hy : y < 30) (hc : c < 900) : t_X6_apart E (Int32.ofNat x) (Int32.ofNat y) (Int32.ofNat c) t = some (Int32.ofNat (ad x (c % 30) + ad y (c / 30)), t) := by
  unfold t_X6_apart t_X6_apart_b0
  rw [i32_mod30 (by omega), i32_div30 (by omega), y_size, b2_some, y_size, b2_some]
  show some ((if 0 ≤ Int32.ofNat x - Int32.ofNat (c % 30) then Int32.ofNat x - Int32.ofNat (c % 30) else -(Int32.ofNat x - Int32.ofNat (c % 30))) + (if 0 ≤ Int32.ofNat y - Int32.ofNat (c / 30) then Int32.ofNat y - Int32.ofNat (c / 30) else -(Int32.ofNat y - Int32.ofNat (c / 30))), t) = _
  rw [i32_abs (by omega) (by omega), i32_abs (by omega) (by omega), ← Int32.ofNat_add]
theorem y_NE (h : RB s o nf no mo t.1) (hE : 1000 ≤ E.1) (hN : no ≤ 16) {c : Nat} (hcc : c < 900) (f : Int32) : t_X6_nearestOutlet E (Int32.ofNat c) f t = some (nn (NE s o c f no), t) := by
  rw [← w_eq]
  unfold t_X6_nearestOutlet t_X6_nearestOutlet_b0
  refine w_lp (L := fun m i a => t_X6_nearestOutlet_l5 E m (Int32.ofNat c) f a i t) (n := no) (by omega) (Inv := fun j a => a = nn (NE s o c f j)) (fun m j a hj ha k => ?_) (fun m a ha => ?_) no 0 E.1 (-1 : Int32) (by omega) (by omega) rfl
  · show Ww (t_X6_nearestOutlet_l5 E (m + 1) (Int32.ofNat c) f a (Int32.ofNat j) t) _
    have key : ∀ b, b = nn (NE s o c f (j + 1)) → Ww (t_X6_nearestOutlet_l5 E m (Int32.ofNat c) f b (Int32.ofNat (j + 1)) t) (fun z => z = (nn (NE s o c f no), t)) := k
    obtain ⟨e, he, h0, hce⟩ := y_cellOf (E := E) h hN hj
    have hle := NE_le s o c f j
    have hd := ds_le he hcc
    have take : (¬ s.2.1 (o + 170 + j) 1 = -1 ∧ (f = -1 ∨ s.2.1 (o + 170 + j) 1 = f)) → Ww (t_X6_nearestOutlet_b48 E (t_X6_nearestOutlet_l5 E m) (Int32.ofNat c) f a (Int32.ofNat j) t) (fun z => z = (nn (NE s o c f no), t)) := fun hh => by
      have hnx : NE s o c f (j + 1) = min (NE s o c f j) (ds e c) := by
        conv => lhs; unfold NE
        rw [if_pos hh, h0, nat_clamp (by omega)]
      have hdd : ad (c % 30) (e % 30) + ad (c / 30) (e / 30) = ds e c := ds_comm c e
      unfold t_X6_nearestOutlet_b48 t_X6_nearestOutlet_b78 t_X6_nearestOutlet_b84 t_X6_nearestOutlet_b85
      rw [hce, b2_some, i32_mod30 (by omega), i32_div30 (by omega), y_apart (by omega) (by omega) he, b2_some, hdd, i32_s, ha]
      by_cases q0 : NE s o c f j = 1000
      · rw [if_pos (by unfold nn; rw [if_pos q0])]
        refine key _ ?_
        rw [hnx, Nat.min_eq_right (by omega)]
        unfold nn
        rw [if_neg (by omega)]
      · have e1 : nn (NE s o c f j) = Int32.ofNat (NE s o c f j) := by unfold nn; rw [if_neg q0]
        rw [e1, if_neg (i32_neg1 (by omega))]
        by_cases q : NE s o c f j ≤ ds e c
        · rw [if_pos ((i32_le (by omega) (by omega)).mpr q)]
          refine key _ ?_
          rw [hnx, Nat.min_eq_left q, e1]
        · rw [if_neg (fun q1 => q ((i32_le (by omega) (by omega)).mp q1))]
          refine key _ ?_
          rw [hnx, Nat.min_eq_right (by omega)]
          unfold nn
          rw [if_neg (by omega)]
    have skip : ¬ (¬ s.2.1 (o + 170 + j) 1 = -1 ∧ (f = -1 ∨ s.2.1 (o + 170 + j) 1 = f)) → Ww (t_X6_nearestOutlet_b85 E (t_X6_nearestOutlet_l5 E m) (Int32.ofNat c) f a (Int32.ofNat j) t) (fun z => z = (nn (NE s o c f no), t)) := fun hh => by
      unfold t_X6_nearestOutlet_b85
      rw [i32_s]
      refine key _ ?_
      rw [ha]
      conv => rhs; unfold NE
      rw [if_neg hh]
    unfold t_X6_nearestOutlet_l5
    rw [y_d3, b1_some, r_no h, if_neg (i64_nle (by omega) hj), y_isOpen (by omega), b2_some, r_own h hj]
    by_cases h1 : s.2.1 (o + 170 + j) 1 = -1
    · rw [if_pos (bi_f (fun q => q (i64_m1.mpr h1)))]
      exact skip (fun q => q.1 h1)
    · rw [if_neg (by rw [bi_t (fun q => h1 (i64_m1.mp q))]; decide)]
      by_cases h2 : f = -1
      · rw [if_pos h2]
        exact take ⟨h1, Or.inl h2⟩
      · rw [if_neg h2, y_oo0 (by omega), b2_some, r_own h hj]
        by_cases h3 : s.2.1 (o + 170 + j) 1 = f
        · rw [if_pos (i32_64_inj.mpr h3)]
          exact take ⟨h1, Or.inr h3⟩
        · rw [if_neg (fun q => h3 (i32_64_inj.mp q))]
          exact skip (fun q => q.2.elim h2 h3)
  · show Ww (t_X6_nearestOutlet_l5 E (m + 1) (Int32.ofNat c) f a (Int32.ofNat no) t) _
    unfold t_X6_nearestOutlet_l5
    rw [y_d3, b1_some, r_no h, if_pos (i64_nre (by omega)), w_some, ha]
end LTT
