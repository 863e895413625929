/-! perimeter, border, distance to a territory, coverage, rivals -/
set_option maxRecDepth 100000
noncomputable def pe (s : cT) (o : Nat) (f : Int32) (c : Nat) : Int32 := if s.2.1 (o + 16) c = f then sm (fun k => bi (¬ ow s o (nbr c k) f)) 4 else 0
noncomputable def bo (s : cT) (o : Nat) (f f1 : Int32) (c : Nat) : Int32 := if s.2.1 (o + 16) c = f then sm (fun k => bi (ow s o (nbr c k) f1)) 4 else 0
theorem four_minus (a b c d : Prop) : (4 : Int32) - (0 + bi a + bi b + bi c + bi d) = 0 + bi (¬ a) + bi (¬ b) + bi (¬ c) + bi (¬ d) := by
  by_cases h : a <;> by_cases h1 : b <;> by_cases h2 : c <;> by_cases h3 : d <;> simp only [bi_t, bi_f, h, h1, h2, h3, not_false_eq_true, not_true_eq_false] <;> decide
section LC
variable {E : zE} {N : iN} {s : cT} {g : zH}
theorem enb_m1 {d : Nat} (hd : d = 900 ∨ d < 900) : enb d = -1 ↔ d = 900 := by
  unfold enb
  by_cases h : d = 900
  · rw [if_pos h]; exact ⟨fun _ => h, fun _ => rfl⟩
  · rw [if_neg h]; exact ⟨fun q => absurd q (i32_neg1 (by omega)), fun q => absurd q h⟩
theorem x_PE_in (hE : 1000 ≤ E.1) {k4 : Int32 → Int32 → Int32 → cT → zH → Option (Int32 × (cT × zH))} {f a0 : Int32} {c : Nat} (hc : c < 900) {Q : Int32 × (cT × zH) → Prop} (k : Ww (k4 f (a0 + pe s N.1 f c) (Int32.ofNat (c + 1)) s g) Q) : Ww (c_X5_perimeter_l14 E N k4 E.1 f a0 (Int32.ofNat c) (0 : Int32) s g) Q := by
  by_cases ho : s.2.1 (N.1 + 16) c = f
  · have hp : pe s N.1 f c = sm (fun k => bi (¬ ow s N.1 (nbr c k) f)) 4 := if_pos ho
    rw [hp] at k
    refine w_lp (L := fun m i a => c_X5_perimeter_l14 E N k4 m f a (Int32.ofNat c) i s g) (n := 4) (by decide) (Inv := fun j a => a = a0 + sm (fun k => bi (¬ ow s N.1 (nbr c k) f)) j) (fun m j a hj ha kk => ?_) (fun m a ha => ?_) 4 0 E.1 a0 rfl (by omega) (Int32.add_zero a0).symm
    · show Ww (c_X5_perimeter_l14 E N k4 (m + 1) f a (Int32.ofNat c) (Int32.ofNat j) s g) _
      have hn := nbr_lt (side := j) hc
      unfold c_X5_perimeter_l14 c_X5_perimeter_b56 c_X5_perimeter_b61
      rw [if_neg (le4 hj), cdI_of hc (by decide), b1_some, if_pos ho, x_nbr hc hj, b2_some, i32_s]
      by_cases h1 : nbr c j = 900
      · rw [if_pos ((enb_m1 hn).mpr h1)]
        refine kk _ ?_
        show a + 1 = a0 + (sm _ j + bi (¬ ow s N.1 (nbr c j) f))
        rw [bi_t (fun q => by have := q.1; omega), ha, Int32.add_assoc]
      · rw [if_neg (fun q => h1 ((enb_m1 hn).mp q))]
        have h2 : enb (nbr c j) = Int32.ofNat (nbr c j) := if_neg h1
        rw [h2, cdI_of (by omega) (by decide), b1_some]
        by_cases h3 : s.2.1 (N.1 + 16) (nbr c j) = f
        · rw [if_pos h3]
          refine kk _ ?_
          show a + 0 = a0 + (sm _ j + bi (¬ ow s N.1 (nbr c j) f))
          rw [bi_f (fun q => q ⟨by omega, h3⟩), ha, Int32.add_assoc]
        · rw [if_neg h3]
          refine kk _ ?_
          show a + 1 = a0 + (sm _ j + bi (¬ ow s N.1 (nbr c j) f))
          rw [bi_t (fun q => h3 q.2), ha, Int32.add_assoc]
    · show Ww (c_X5_perimeter_l14 E N k4 (m + 1) f a (Int32.ofNat c) (Int32.ofNat 4) s g) _
      unfold c_X5_perimeter_l14 c_X5_perimeter_b69
      rw [if_pos (re4), i32_s, ha]
      exact k
  · have hp : pe s N.1 f c = 0 := if_neg ho
    rw [hp, Int32.add_zero] at k
    obtain ⟨m, hm⟩ : ∃ m, E.1 = m + 1 := ⟨E.1 - 1, by omega⟩
    rw [hm]
    unfold c_X5_perimeter_l14 c_X5_perimeter_b69
    rw [if_neg (by decide), cdI_of hc (by decide), b1_some, if_neg ho, i32_s]
    exact k
theorem x_PE (hE : 1000 ≤ E.1) (f : Int32) : c_X5_perimeter E N f s g = some (sm (pe s N.1 f) 900, (s, g)) := by
  rw [← w_eq]
  unfold c_X5_perimeter c_X5_perimeter_b0
  refine w_lp (L := fun m i a => c_X5_perimeter_l4 E N m f a i s g) (n := 900) (by decide) (Inv := fun j a => a = sm (pe s N.1 f) j) (fun m j a hj ha k => ?_) (fun m a ha => ?_) 900 0 E.1 0 rfl (by omega) rfl
  · show Ww (c_X5_perimeter_l4 E N (m + 1) f a (Int32.ofNat j) s g) _
    unfold c_X5_perimeter_l4
    rw [if_neg (le900 hj)]
    exact x_PE_in hE hj (k _ (by rw [ha]; rfl))
  · show Ww (c_X5_perimeter_l4 E N (m + 1) f a (Int32.ofNat 900) s g) _
    unfold c_X5_perimeter_l4
    rw [if_pos (re900), w_some, ha]
theorem x_BO_in (hE : 1000 ≤ E.1) {k5 : Int32 → Int32 → Int32 → Int32 → cT → zH → Option (Int32 × (cT × zH))} {f f1 a0 : Int32} {c : Nat} (hc : c < 900) {Q : Int32 × (cT × zH) → Prop} (k : Ww (k5 f f1 (a0 + bo s N.1 f f1 c) (Int32.ofNat (c + 1)) s g) Q) : Ww (c_X5_border_l16 E N k5 E.1 f f1 a0 (Int32.ofNat c) (0 : Int32) s g) Q := by
  by_cases ho : s.2.1 (N.1 + 16) c = f
  · have hp : bo s N.1 f f1 c = sm (fun k => bi (ow s N.1 (nbr c k) f1)) 4 := if_pos ho
    rw [hp] at k
    refine w_lp (L := fun m i a => c_X5_border_l16 E N k5 m f f1 a (Int32.ofNat c) i s g) (n := 4) (by decide) (Inv := fun j a => a = a0 + sm (fun k => bi (ow s N.1 (nbr c k) f1)) j) (fun m j a hj ha kk => ?_) (fun m a ha => ?_) 4 0 E.1 a0 rfl (by omega) (Int32.add_zero a0).symm
    · show Ww (c_X5_border_l16 E N k5 (m + 1) f f1 a (Int32.ofNat c) (Int32.ofNat j) s g) _
      have hn := nbr_lt (side := j) hc
      unfold c_X5_border_l16 c_X5_border_b64 c_X5_border_b65
      rw [if_neg (le4 hj), cdI_of hc (by decide), b1_some, if_pos ho, x_nbr hc hj, b2_some, i32_s]
      by_cases h1 : nbr c j = 900
      · rw [if_pos ((enb_m1 hn).mpr h1)]
        refine kk _ ?_
        show a + 0 = a0 + (sm _ j + bi (ow s N.1 (nbr c j) f1))
        rw [bi_f (fun q => by have := q.1; omega), ha, Int32.add_assoc]
      · rw [if_neg (fun q => h1 ((enb_m1 hn).mp q))]
        have h2 : enb (nbr c j) = Int32.ofNat (nbr c j) := if_neg h1
        rw [h2, cdI_of (by omega) (by decide), b1_some]
        by_cases h3 : s.2.1 (N.1 + 16) (nbr c j) = f1
        · rw [if_pos h3]
          refine kk _ ?_
          show a + 1 = a0 + (sm _ j + bi (ow s N.1 (nbr c j) f1))
          rw [bi_t ⟨by omega, h3⟩, ha, Int32.add_assoc]
        · rw [if_neg h3]
          refine kk _ ?_
          show a + 0 = a0 + (sm _ j + bi (ow s N.1 (nbr c j) f1))
          rw [bi_f (fun q => h3 q.2), ha, Int32.add_assoc]
    · show Ww (c_X5_border_l16 E N k5 (m + 1) f f1 a (Int32.ofNat c) (Int32.ofNat 4) s g) _
      unfold c_X5_border_l16 c_X5_border_b73
      rw [if_pos (re4), i32_s, ha]
      exact k
  · have hp : bo s N.1 f f1 c = 0 := if_neg ho
    rw [hp, Int32.add_zero] at k
    obtain ⟨m, hm⟩ : ∃ m, E.1 = m + 1 := ⟨E.1 - 1, by omega⟩
    rw [hm]
    unfold c_X5_border_l16 c_X5_border_b73
    rw [if_neg (by decide), cdI_of hc (by decide), b1_some, if_neg ho, i32_s]
    exact k
theorem x_BO (hE : 1000 ≤ E.1) (f f1 : Int32) : c_X5_border E N f f1 s g = some (sm (bo s N.1 f f1) 900, (s, g)) := by
  rw [← w_eq]
  unfold c_X5_border c_X5_border_b0
  refine w_lp (L := fun m i a => c_X5_border_l5 E N m f f1 a i s g) (n := 900) (by decide) (Inv := fun j a => a = sm (bo s N.1 f f1) j) (fun m j a hj ha k => ?_) (fun m a ha => ?_) 900 0 E.1 0 rfl (by omega) rfl
  · show Ww (c_X5_border_l5 E N (m + 1) f f1 a (Int32.ofNat j) s g) _
    unfold c_X5_border_l5
    rw [if_neg (le900 hj)]
    exact x_BO_in hE hj (k _ (by rw [ha]; rfl))
  · show Ww (c_X5_border_l5 E N (m + 1) f f1 a (Int32.ofNat 900) s g) _
    unfold c_X5_border_l5
    rw [if_pos (re900), w_some, ha]
end LC
section LTT
variable {E : zE} {t : twS} {s : cT} {o nf no mo : Nat}
theorem y_PE (h : RB s o nf no mo t.1) (hE : 1000 ≤ E.1) (f : Int32) : t_X6_perimeter_l32 E E.1 f (0 : Int32) (0 : Int32) t = some (sm (pe s o f) 900, t) := by
  rw [← w_eq]
  refine w_lp (L := fun m i a => t_X6_perimeter_l32 E m f a i t) (n := 900) (by decide) (Inv := fun j a => a = sm (pe s o f) j) (fun m j a hj ha k => ?_) (fun m a ha => ?_) 900 0 E.1 0 rfl (by omega) rfl
  · show Ww (t_X6_perimeter_l32 E (m + 1) f a (Int32.ofNat j) t) _
    unfold t_X6_perimeter_l32 t_X6_perimeter_b73
    rw [if_neg (le900 hj), y_cell hj, b1_some, r_cel h hj, i32_mod30 (by omega), i32_div30 (by omega), y_nbs h hj, b2_some, i32_s]
    by_cases hc : s.2.1 (o + 16) j = f
    · rw [if_pos (i32_64_inj.mpr hc)]
      refine k _ ?_
      show a + (4 - sm (fun k => bi (ow s o (nbr j k) f)) 4) = sm (pe s o f) j + pe s o f j
      rw [ha, show pe s o f j = _ from if_pos hc]
      exact congrArg _ (four_minus _ _ _ _)
    · rw [if_neg (fun q => hc (i32_64_inj.mp q))]
      refine k _ ?_
      show a = sm (pe s o f) j + pe s o f j
      rw [ha, show pe s o f j = _ from if_neg hc, Int32.add_zero]
  · show Ww (t_X6_perimeter_l32 E (m + 1) f a (Int32.ofNat 900) t) _
    unfold t_X6_perimeter_l32
    rw [if_pos (re900), w_some, ha]
theorem y_BO (h : RB s o nf no mo t.1) (hE : 1000 ≤ E.1) (f f1 : Int32) : t_X6_border_l46 E E.1 f f1 (0 : Int32) (0 : Int32) t = some (sm (bo s o f f1) 900, t) := by
  rw [← w_eq]
  refine w_lp (L := fun m i a => t_X6_border_l46 E m f f1 a i t) (n := 900) (by decide) (Inv := fun j a => a = sm (bo s o f f1) j) (fun m j a hj ha k => ?_) (fun m a ha => ?_) 900 0 E.1 0 rfl (by omega) rfl
  · show Ww (t_X6_border_l46 E (m + 1) f f1 a (Int32.ofNat j) t) _
    unfold t_X6_border_l46 t_X6_border_b89
    rw [if_neg (le900 hj), y_cell hj, b1_some, r_cel h hj, i32_mod30 (by omega), i32_div30 (by omega), y_nbs h hj, b2_some, i32_s]
    by_cases hc : s.2.1 (o + 16) j = f
    · rw [if_pos (i32_64_inj.mpr hc)]
      refine k _ ?_
      show a + sm (fun k => bi (ow s o (nbr j k) f1)) 4 = sm (bo s o f f1) j + bo s o f f1 j
      rw [ha, show bo s o f f1 j = _ from if_pos hc]
    · rw [if_neg (fun q => hc (i32_64_inj.mp q))]
      refine k _ ?_
      show a = sm (bo s o f f1) j + bo s o f f1 j
      rw [ha, show bo s o f f1 j = _ from if_neg hc, Int32.add_zero]
  · show Ww (t_X6_border_l46 E (m + 1) f f1 a (Int32.ofNat 900) t) _
    unfold t_X6_border_l46
    rw [if_pos (re900), w_some, ha]
end LTT
