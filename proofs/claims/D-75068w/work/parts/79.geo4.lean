/-! distance to a territory, coverage, rivals, the best site -/
set_option maxRecDepth 100000
def DT (s : cT) (o : Nat) (f : Int32) (c0 : Nat) : Nat → Nat
  | 0 => 1000
  | j + 1 => if s.2.1 (o + 16) j = f then min (DT s o f c0 j) (ds j c0) else DT s o f c0 j
theorem DT_le (s : cT) (o : Nat) (f : Int32) (c0 : Nat) : ∀ j, DT s o f c0 j ≤ 1000
  | 0 => Nat.le_refl _
  | j + 1 => by
    have := DT_le s o f c0 j
    unfold DT
    split <;> omega
theorem DT_s {s : cT} {o : Nat} {f : Int32} {c0 j : Nat} (h : s.2.1 (o + 16) j = f) : DT s o f c0 (j + 1) = min (DT s o f c0 j) (ds j c0) := if_pos h
theorem DT_n {s : cT} {o : Nat} {f : Int32} {c0 j : Nat} (h : ¬ s.2.1 (o + 16) j = f) : DT s o f c0 (j + 1) = DT s o f c0 j := if_neg h
noncomputable def cv (s : cT) (o no : Nat) (f : Int32) (r c : Nat) : Int32 := bi (s.2.1 (o + 16) c = f ∧ NE s o c f no ≤ r)
noncomputable def rv (s : cT) (o no : Nat) (f f1 : Int32) (c : Nat) : Int32 := bi (s.2.1 (o + 16) c = f ∧ NE s o c f1 no < NE s o c f no)
/-- a site that may be the best -/
def cand (s : cT) (o no : Nat) (f : Int32) (c : Nat) : Prop := s.2.1 (o + 16) c = f ∧ ¬ HO s o no (Int32.ofNat c)
noncomputable def bs (s : cT) (o no : Nat) (f : Int32) : Nat → Nat
  | 0 => 900
  | j + 1 => @ite _ (cand s o no f j ∧ (bs s o no f j = 900 ∨ NE s o (bs s o no f j) (-1) no < NE s o j (-1) no)) (Classical.propDecidable _) j (bs s o no f j)
theorem bs_lt (s : cT) (o no : Nat) (f : Int32) : ∀ j, j ≤ 900 → bs s o no f j = 900 ∨ bs s o no f j < 900
  | 0, _ => Or.inl rfl
  | j + 1, hj => by
    have := bs_lt s o no f j (by omega)
    unfold bs
    split
    · right; omega
    · exact this
theorem bs_y {s : cT} {o no : Nat} {f : Int32} {j : Nat} (h : cand s o no f j ∧ (bs s o no f j = 900 ∨ NE s o (bs s o no f j) (-1) no < NE s o j (-1) no)) : bs s o no f (j + 1) = j := if_pos h
theorem bs_n {s : cT} {o no : Nat} {f : Int32} {j : Nat} (h : ¬ (cand s o no f j ∧ (bs s o no f j = 900 ∨ NE s o (bs s o no f j) (-1) no < NE s o j (-1) no))) : bs s o no f (j + 1) = bs s o no f j := if_neg h
/-- where no outlet is open, it is so for all cells -/
theorem NE_all {s : cT} {o : Nat} {f : Int32} {c c1 : Nat} (hc : c < 900) (hc1 : c1 < 900) : ∀ (j : Nat), (∀ k, k < j → ∃ e, e < 900 ∧ s.2.1 (o + 170 + k) 0 = Int32.ofNat e) → (NE s o c f j = 1000 ↔ NE s o c1 f j = 1000) ∧ (NE s o c f j = 1000 ∨ NE s o c f j ≤ 58) := by
  intro j
  induction j with
  | zero => intro _; exact ⟨Iff.rfl, Or.inl rfl⟩
  | succ j ih =>
    intro h
    obtain ⟨i1, i2⟩ := ih (fun k hk => h k (by omega))
    obtain ⟨e, he, h0⟩ := h j (by omega)
    have d1 := ds_le he hc
    have d2 := ds_le he hc1
    unfold NE
    by_cases q : ¬ s.2.1 (o + 170 + j) 1 = -1 ∧ (f = -1 ∨ s.2.1 (o + 170 + j) 1 = f)
    · rw [if_pos q, if_pos q, h0, nat_clamp (by omega)]
      refine ⟨⟨fun k => ?_, fun k => ?_⟩, ?_⟩ <;> omega
    · rw [if_neg q, if_neg q]
      exact ⟨i1, i2⟩
theorem nn_e {x : Nat} (h : x = 1000) : nn x = -1 := if_pos h
theorem nn_n {x : Nat} (h : ¬ x = 1000) : nn x = Int32.ofNat x := if_neg h
theorem nn_m1 {x : Nat} (hx : x ≤ 1000) : nn x = -1 ↔ x = 1000 := by
  by_cases h : x = 1000
  · rw [nn_e h]; exact ⟨fun _ => h, fun _ => rfl⟩
  · rw [nn_n h]; exact ⟨fun q => absurd q (i32_neg1 (by omega)), fun q => absurd q h⟩
section LC
variable {E : zE} {N : iN} {s : cT} {g : zH}
theorem x_DT (hE : 1000 ≤ E.1) (f : Int32) {c0 : Nat} (hc0 : c0 < 900) : c_X5_distanceTo E N f (Int32.ofNat c0) s g = some (nn (DT s N.1 f c0 900), (s, g)) := by
  rw [← w_eq]
  unfold c_X5_distanceTo c_X5_distanceTo_b0
  refine w_lp (L := fun m i a => c_X5_distanceTo_l7 E N m f (Int32.ofNat c0) a i s g) (n := 900) (by decide) (Inv := fun j a => a = Int32.ofNat (DT s N.1 f c0 j)) (fun m j a hj ha k => ?_) (fun m a ha => ?_) 900 0 E.1 (1000 : Int32) rfl (by omega) rfl
  · show Ww (c_X5_distanceTo_l7 E N (m + 1) f (Int32.ofNat c0) a (Int32.ofNat j) s g) _
    have hle := DT_le s N.1 f c0 j
    have hd := ds_le hj hc0
    unfold c_X5_distanceTo_l7 c_X5_distanceTo_b37
    rw [if_neg (le900 hj), cdI_of hj (by decide), b1_some]
    by_cases h : s.2.1 (N.1 + 16) j = f
    · rw [if_pos h, x_ds hj hc0, b2_some, x_min, b2_some, i32_s]
      refine k _ ?_
      show (if Int32.ofNat (ds j c0) < a then Int32.ofNat (ds j c0) else a) = _
      rw [ha, DT_s h]
      by_cases q : ds j c0 < DT s N.1 f c0 j
      · rw [if_pos ((i32_lt (by omega) (by omega)).mpr q), Nat.min_eq_right (by omega)]
      · rw [if_neg (fun q1 => q ((i32_lt (by omega) (by omega)).mp q1)), Nat.min_eq_left (by omega)]
    · rw [if_neg h, i32_s]
      exact k _ (by rw [ha, DT_n h])
  · show Ww (c_X5_distanceTo_l7 E N (m + 1) f (Int32.ofNat c0) a (Int32.ofNat 900) s g) _
    have hle := DT_le s N.1 f c0 900
    unfold c_X5_distanceTo_l7 c_X5_distanceTo_b55
    rw [if_pos (re900), ha]
    by_cases q : DT s N.1 f c0 900 = 1000
    · rw [if_pos (by rw [q]; rfl), w_some, nn_e q]
    · rw [if_neg (show ¬ Int32.ofNat (DT s N.1 f c0 900) = (1000 : Int32) from fun e => q ((i32_eq (b := 1000) (by omega) (by decide)).mp e)), w_some, nn_n q]
theorem x_CV (hE : 1000 ≤ E.1) (hN : N.2.2.1 ≤ 16) (hc : ∀ k, k < N.2.2.1 → ∃ e, e < 900 ∧ s.2.1 (N.1 + 170 + k) 0 = Int32.ofNat e) (f : Int32) {r : Nat} (hr : r ≤ 58) : c_X1_coverage_l37 E N E.1 f (Int32.ofNat r) (0 : Int32) (0 : Int32) s g = some (.inl (sm (cv s N.1 N.2.2.1 f r) 900), (s, g)) := by
  rw [← w_eq]
  refine w_lp (L := fun m i a => c_X1_coverage_l37 E N m f (Int32.ofNat r) a i s g) (n := 900) (by decide) (Inv := fun j a => a = sm (cv s N.1 N.2.2.1 f r) j) (fun m j a hj ha k => ?_) (fun m a ha => ?_) 900 0 E.1 0 rfl (by omega) rfl
  · show Ww (c_X1_coverage_l37 E N (m + 1) f (Int32.ofNat r) a (Int32.ofNat j) s g) _
    have hle := NE_le s N.1 j f N.2.2.1
    unfold c_X1_coverage_l37 c_X1_coverage_b81 c_X1_coverage_b82
    rw [if_neg (le900 hj), cdI_of hj (by decide), b1_some, x_NE hE hN hc hj, b2_some, i32_s]
    by_cases h : s.2.1 (N.1 + 16) j = f
    · rw [if_pos h]
      by_cases q : r < NE s N.1 j f N.2.2.1
      · rw [if_pos ((i32_lt (by omega) (by omega)).mpr q)]
        exact k _ (by show a + 0 = sm _ j + cv s N.1 N.2.2.1 f r j; rw [ha, show cv s N.1 N.2.2.1 f r j = 0 from bi_f (fun k => by have := k.2; omega)])
      · rw [if_neg (fun q1 => q ((i32_lt (by omega) (by omega)).mp q1))]
        exact k _ (by show a + 1 = sm _ j + cv s N.1 N.2.2.1 f r j; rw [ha, show cv s N.1 N.2.2.1 f r j = 1 from bi_t ⟨h, by omega⟩])
    · rw [if_neg h]
      exact k _ (by show a + 0 = sm _ j + cv s N.1 N.2.2.1 f r j; rw [ha, show cv s N.1 N.2.2.1 f r j = 0 from bi_f (fun k => h k.1)])
  · show Ww (c_X1_coverage_l37 E N (m + 1) f (Int32.ofNat r) a (Int32.ofNat 900) s g) _
    unfold c_X1_coverage_l37
    rw [if_pos (re900), w_some, ha]
theorem x_RV (hE : 1000 ≤ E.1) (hN : N.2.2.1 ≤ 16) (hc : ∀ k, k < N.2.2.1 → ∃ e, e < 900 ∧ s.2.1 (N.1 + 170 + k) 0 = Int32.ofNat e) (f f1 : Int32) : c_X1_rivalCells_l46 E N E.1 f f1 (0 : Int32) (0 : Int32) s g = some (.inl (sm (rv s N.1 N.2.2.1 f f1) 900), (s, g)) := by
  rw [← w_eq]
  refine w_lp (L := fun m i a => c_X1_rivalCells_l46 E N m f f1 a i s g) (n := 900) (by decide) (Inv := fun j a => a = sm (rv s N.1 N.2.2.1 f f1) j) (fun m j a hj ha k => ?_) (fun m a ha => ?_) 900 0 E.1 0 rfl (by omega) rfl
  · show Ww (c_X1_rivalCells_l46 E N (m + 1) f f1 a (Int32.ofNat j) s g) _
    have hle := NE_le s N.1 j f N.2.2.1
    have hle1 := NE_le s N.1 j f1 N.2.2.1
    unfold c_X1_rivalCells_l46 c_X1_rivalCells_b99 c_X1_rivalCells_b100
    rw [if_neg (le900 hj), cdI_of hj (by decide), b1_some, x_NE hE hN hc hj, b2_some, x_NE hE hN hc hj, b2_some, i32_s]
    by_cases h : s.2.1 (N.1 + 16) j = f
    · rw [if_pos h]
      by_cases q : NE s N.1 j f N.2.2.1 ≤ NE s N.1 j f1 N.2.2.1
      · rw [if_pos ((i32_le (by omega) (by omega)).mpr q)]
        exact k _ (by show a + 0 = sm _ j + rv s N.1 N.2.2.1 f f1 j; rw [ha, show rv s N.1 N.2.2.1 f f1 j = 0 from bi_f (fun k => by have := k.2; omega)])
      · rw [if_neg (fun q1 => q ((i32_le (by omega) (by omega)).mp q1))]
        exact k _ (by show a + 1 = sm _ j + rv s N.1 N.2.2.1 f f1 j; rw [ha, show rv s N.1 N.2.2.1 f f1 j = 1 from bi_t ⟨h, by omega⟩])
    · rw [if_neg h]
      exact k _ (by show a + 0 = sm _ j + rv s N.1 N.2.2.1 f f1 j; rw [ha, show rv s N.1 N.2.2.1 f f1 j = 0 from bi_f (fun k => h k.1)])
  · show Ww (c_X1_rivalCells_l46 E N (m + 1) f f1 a (Int32.ofNat 900) s g) _
    unfold c_X1_rivalCells_l46
    rw [if_pos (re900), w_some, ha]
/-- what is told of the best site -/
def told (b : Nat) : Int32 := if b = 900 then -1 else Int32.ofNat (100 * (b / 30) + b % 30)
theorem enb_n {d : Nat} (h : ¬ d = 900) : enb d = Int32.ofNat d := if_neg h
theorem enb_e {d : Nat} (h : d = 900) : enb d = -1 := if_pos h
theorem x_BS (hE : 1000 ≤ E.1) (hN : N.2.2.1 ≤ 16) (hc : ∀ k, k < N.2.2.1 → ∃ e, e < 900 ∧ s.2.1 (N.1 + 170 + k) 0 = Int32.ofNat e) (f : Int32) : c_X1_bestSite_l21 E N E.1 f (-1 : Int32) (0 : Int32) (0 : Int32) s g = some (.inl (told (bs s N.1 N.2.2.1 f 900)), (s, g)) := by
  rw [← w_eq]
  refine w_lp (σ := Int32 × Int32) (L := fun m i a => c_X1_bestSite_l21 E N m f a.1 a.2 i s g) (n := 900) (by decide) (Inv := fun j a => a.1 = enb (bs s N.1 N.2.2.1 f j) ∧ (¬ bs s N.1 N.2.2.1 f j = 900 → a.2 = Int32.ofNat (NE s N.1 (bs s N.1 N.2.2.1 f j) (-1) N.2.2.1))) (fun m j a hj ha k => ?_) (fun m a ha => ?_) 900 0 E.1 (-1, 0) rfl (by omega) ⟨rfl, fun h => absurd rfl h⟩
  · show Ww (c_X1_bestSite_l21 E N (m + 1) f a.1 a.2 (Int32.ofNat j) s g) _
    obtain ⟨ha1, ha2⟩ := ha
    have hb := bs_lt s N.1 N.2.2.1 f j (by omega)
    have hle := NE_le s N.1 j (-1) N.2.2.1
    have hle1 := NE_le s N.1 (bs s N.1 N.2.2.1 f j) (-1) N.2.2.1
    have stay : ¬ (cand s N.1 N.2.2.1 f j ∧ (bs s N.1 N.2.2.1 f j = 900 ∨ NE s N.1 (bs s N.1 N.2.2.1 f j) (-1) N.2.2.1 < NE s N.1 j (-1) N.2.2.1)) → Ww (c_X1_bestSite_l21 E N m f a.1 a.2 (Int32.ofNat (j + 1)) s g) (fun z => z = (.inl (told (bs s N.1 N.2.2.1 f 900)), (s, g))) := fun hn => k a (by rw [bs_n hn]; exact ⟨ha1, ha2⟩)
    have take : (cand s N.1 N.2.2.1 f j ∧ (bs s N.1 N.2.2.1 f j = 900 ∨ NE s N.1 (bs s N.1 N.2.2.1 f j) (-1) N.2.2.1 < NE s N.1 j (-1) N.2.2.1)) → Ww (c_X1_bestSite_l21 E N m f (Int32.ofNat j) (Int32.ofNat (NE s N.1 j (-1) N.2.2.1)) (Int32.ofNat (j + 1)) s g) (fun z => z = (.inl (told (bs s N.1 N.2.2.1 f 900)), (s, g))) := fun hy => k (Int32.ofNat j, Int32.ofNat (NE s N.1 j (-1) N.2.2.1)) (by rw [bs_y hy]; exact ⟨(enb_n (by omega)).symm, fun _ => rfl⟩)
    unfold c_X1_bestSite_l21 c_X1_bestSite_b87 c_X1_bestSite_b93
    rw [if_neg (le900 hj), cdI_of hj (by decide), b1_some, x_HO hE hN, b2_some, i32_s]
    by_cases h : s.2.1 (N.1 + 16) j = f
    · rw [if_pos h]
      by_cases h1 : HO s N.1 N.2.2.1 (Int32.ofNat j)
      · rw [if_neg (by rw [bi_t h1]; decide)]
        exact stay (fun q => q.1.2 h1)
      · rw [if_pos (bi_f h1), x_NE hE hN hc hj, b2_some]
        by_cases h2 : bs s N.1 N.2.2.1 f j = 900
        · rw [if_pos (by rw [ha1, enb_e h2])]
          exact take ⟨⟨h, h1⟩, Or.inl h2⟩
        · rw [if_neg (by rw [ha1, enb_n h2]; exact i32_neg1 (by omega)), ha2 h2]
          by_cases h3 : NE s N.1 (bs s N.1 N.2.2.1 f j) (-1) N.2.2.1 < NE s N.1 j (-1) N.2.2.1
          · rw [if_pos ((i32_lt (by omega) (by omega)).mpr h3)]
            exact take ⟨⟨h, h1⟩, Or.inr h3⟩
          · rw [if_neg (fun q => h3 ((i32_lt (by omega) (by omega)).mp q)), ← ha2 h2]
            exact stay (fun q => q.2.elim h2 h3)
    · rw [if_neg h]
      exact stay (fun q => h q.1.1)
  · show Ww (c_X1_bestSite_l21 E N (m + 1) f a.1 a.2 (Int32.ofNat 900) s g) _
    have hb := bs_lt s N.1 N.2.2.1 f 900 (by omega)
    unfold c_X1_bestSite_l21 c_X1_bestSite_b112
    rw [if_pos (re900), ha.1]
    by_cases q : bs s N.1 N.2.2.1 f 900 = 900
    · rw [if_pos (enb_e q), w_some]
      unfold told
      rw [if_pos q]
    · rw [if_neg (by rw [enb_n q]; exact i32_neg1 (by omega)), enb_n q, x_told (by omega), b2_some, w_some]
      unfold told
      rw [if_neg q]
end LC
section LTT
variable {E : zE} {t : twS} {s : cT} {o nf no mo : Nat}
theorem y_DT (h : RB s o nf no mo t.1) (hE : 1000 ≤ E.1) (f : Int32) {x y : Nat} (hx : x < 30) (hy : y < 30) : t_X6_distance_l55 E E.1 f (Int32.ofNat x) (Int32.ofNat y) (-1 : Int32) (0 : Int32) t = some (nn (DT s o f (30 * y + x) 900), t) := by
  rw [← w_eq]
  refine w_lp (L := fun m i a => t_X6_distance_l55 E m f (Int32.ofNat x) (Int32.ofNat y) a i t) (n := 900) (by decide) (Inv := fun j a => a = nn (DT s o f (30 * y + x) j)) (fun m j a hj ha k => ?_) (fun m a ha => ?_) 900 0 E.1 (-1 : Int32) rfl (by omega) rfl
  · show Ww (t_X6_distance_l55 E (m + 1) f (Int32.ofNat x) (Int32.ofNat y) a (Int32.ofNat j) t) _
    have hle := DT_le s o f (30 * y + x) j
    have hd := ds_le hj (show 30 * y + x < 900 by omega)
    have hdd : ad x (j % 30) + ad y (j / 30) = ds j (30 * y + x) := by
      unfold ds ad
      omega
    unfold t_X6_distance_l55 t_X6_distance_b98 t_X6_distance_b107
    rw [if_neg (le900 hj), y_cell hj, b1_some, r_cel h hj, i32_s]
    by_cases hc : s.2.1 (o + 16) j = f
    · rw [if_pos (i32_64_inj.mpr hc), ha]
      by_cases q0 : DT s o f (30 * y + x) j = 1000
      · rw [if_pos (nn_e q0), y_apart hx hy hj, b2_some, hdd]
        refine k _ ?_
        rw [DT_s hc, Nat.min_eq_right (by omega), nn_n (by omega)]
      · rw [nn_n q0, if_neg (i32_neg1 (by omega)), y_apart hx hy hj, b2_some, hdd]
        by_cases q : DT s o f (30 * y + x) j ≤ ds j (30 * y + x)
        · rw [if_pos ((i32_le (by omega) (by omega)).mpr q)]
          refine k _ ?_
          rw [DT_s hc, Nat.min_eq_left q, nn_n q0]
        · rw [if_neg (fun q1 => q ((i32_le (by omega) (by omega)).mp q1)), y_apart hx hy hj, b2_some, hdd]
          refine k _ ?_
          rw [DT_s hc, Nat.min_eq_right (by omega), nn_n (by omega)]
    · rw [if_neg (fun q => hc (i32_64_inj.mp q))]
      exact k _ (by rw [ha, DT_n hc])
  · show Ww (t_X6_distance_l55 E (m + 1) f (Int32.ofNat x) (Int32.ofNat y) a (Int32.ofNat 900) t) _
    unfold t_X6_distance_l55
    rw [if_pos (re900), w_some, ha]
theorem y_CV (h : RB s o nf no mo t.1) (hE : 1000 ≤ E.1) (hN : no ≤ 16) (f : Int32) {r : Nat} (hr : r ≤ 58) : t_X6_coverage_l58 E E.1 f (Int32.ofNat r) (0 : Int32) (0 : Int32) t = some (sm (cv s o no f r) 900, t) := by
  rw [← w_eq]
  refine w_lp (L := fun m i a => t_X6_coverage_l58 E m f (Int32.ofNat r) a i t) (n := 900) (by decide) (Inv := fun j a => a = sm (cv s o no f r) j) (fun m j a hj ha k => ?_) (fun m a ha => ?_) 900 0 E.1 0 rfl (by omega) rfl
  · show Ww (t_X6_coverage_l58 E (m + 1) f (Int32.ofNat r) a (Int32.ofNat j) t) _
    have hle := NE_le s o j f no
    unfold t_X6_coverage_l58 t_X6_coverage_b106 t_X6_coverage_b108
    rw [if_neg (le900 hj), y_cell hj, b1_some, r_cel h hj, y_NE h hE hN hj, b2_some, y_inRange, b2_some, i32_s]
    by_cases hc : s.2.1 (o + 16) j = f
    · rw [if_pos (i32_64_inj.mpr hc)]
      have e : ((0 : Int64) ≤ (nn (NE s o j f no)).toInt64 ∧ (nn (NE s o j f no)).toInt64 ≤ (Int32.ofNat r).toInt64) ↔ NE s o j f no ≤ r := by
        by_cases q : NE s o j f no = 1000
        · rw [nn_e q]
          exact ⟨fun k => absurd k.1 (by decide), fun k => by omega⟩
        · rw [nn_n q, i32_64 (by omega), i32_64 (by omega), show (0 : Int64) = Int64.ofNat 0 from rfl, i64_le (by omega) (by omega), i64_le (by omega) (by omega)]
          omega
      by_cases q : NE s o j f no ≤ r
      · rw [if_pos (e.mpr q), if_neg (by decide)]
        exact k _ (by show a + 1 = sm _ j + cv s o no f r j; rw [ha, show cv s o no f r j = 1 from bi_t ⟨hc, q⟩])
      · rw [if_neg (fun k => q (e.mp k)), if_pos rfl]
        exact k _ (by show a + 0 = sm _ j + cv s o no f r j; rw [ha, show cv s o no f r j = 0 from bi_f (fun k => q k.2)])
    · rw [if_neg (fun q => hc (i32_64_inj.mp q))]
      exact k _ (by show a = sm _ j + cv s o no f r j; rw [ha, show cv s o no f r j = 0 from bi_f (fun k => hc k.1), Int32.add_zero])
  · show Ww (t_X6_coverage_l58 E (m + 1) f (Int32.ofNat r) a (Int32.ofNat 900) t) _
    unfold t_X6_coverage_l58
    rw [if_pos (re900), w_some, ha]
theorem y_RV (h : RB s o nf no mo t.1) (hE : 1000 ≤ E.1) (hN : no ≤ 16) (f f1 : Int32) : t_X6_rivalCells_l59 E E.1 f f1 (0 : Int32) (0 : Int32) t = some (sm (rv s o no f f1) 900, t) := by
  rw [← w_eq]
  refine w_lp (L := fun m i a => t_X6_rivalCells_l59 E m f f1 a i t) (n := 900) (by decide) (Inv := fun j a => a = sm (rv s o no f f1) j) (fun m j a hj ha k => ?_) (fun m a ha => ?_) 900 0 E.1 0 rfl (by omega) rfl
  · show Ww (t_X6_rivalCells_l59 E (m + 1) f f1 a (Int32.ofNat j) t) _
    have hle := NE_le s o j f no
    have hle1 := NE_le s o j f1 no
    have y1 : rv s o no f f1 j = 1 → Ww (t_X6_rivalCells_l59 E m f f1 (a + 1) (Int32.ofNat (j + 1)) t) (fun z => z = (sm (rv s o no f f1) 900, t)) := fun e => k _ (by show a + 1 = sm _ j + rv s o no f f1 j; rw [ha, e])
    have y0 : rv s o no f f1 j = 0 → Ww (t_X6_rivalCells_l59 E m f f1 (a + 0) (Int32.ofNat (j + 1)) t) (fun z => z = (sm (rv s o no f f1) 900, t)) := fun e => k _ (by show a + 0 = sm _ j + rv s o no f f1 j; rw [ha, e])
    unfold t_X6_rivalCells_l59 t_X6_rivalCells_b125 t_X6_rivalCells_b129 t_X6_rivalCells_b130 t_X6_rivalCells_b132
    rw [if_neg (le900 hj), y_cell hj, b1_some, r_cel h hj, y_NE h hE hN hj, b2_some, y_NE h hE hN hj, b2_some, i32_s]
    by_cases hc : s.2.1 (o + 16) j = f
    · rw [if_pos (i32_64_inj.mpr hc)]
      by_cases q1 : NE s o j f1 no = 1000
      · rw [if_pos (nn_e q1)]
        exact y0 (bi_f (fun k => by have := k.2; omega))
      · rw [if_neg (fun q => q1 ((nn_m1 hle1).mp q))]
        by_cases q2 : NE s o j f no = 1000
        · rw [if_pos (nn_e q2)]
          exact y1 (bi_t ⟨hc, by omega⟩)
        · rw [if_neg (fun q => q2 ((nn_m1 hle).mp q)), nn_n q1, nn_n q2]
          by_cases q3 : NE s o j f no ≤ NE s o j f1 no
          · rw [if_pos ((i32_le (by omega) (by omega)).mpr q3)]
            exact y0 (bi_f (fun k => by have := k.2; omega))
          · rw [if_neg (fun q => q3 ((i32_le (by omega) (by omega)).mp q))]
            exact y1 (bi_t ⟨hc, by omega⟩)
    · rw [if_neg (fun q => hc (i32_64_inj.mp q))]
      exact k _ (by show a = sm _ j + rv s o no f f1 j; rw [ha, show rv s o no f f1 j = 0 from bi_f (fun k => hc k.1), Int32.add_zero])
  · show Ww (t_X6_rivalCells_l59 E (m + 1) f f1 a (Int32.ofNat 900) t) _
    unfold t_X6_rivalCells_l59
    rw [if_pos (re900), w_some, ha]
theorem nn_cmp {x y : Nat} (hx : x = 1000 ∨ x ≤ 58) (hy : y = 1000 ∨ y ≤ 58) (hxy : x = 1000 ↔ y = 1000) : nn x ≤ nn y ↔ x ≤ y := by
  by_cases q : x = 1000
  · rw [nn_e q, nn_e (hxy.mp q)]
    exact ⟨fun _ => by have := hxy.mp q; omega, fun _ => re900⟩
  · rw [nn_n q, nn_n (fun k => q (hxy.mpr k)), i32_le (by omega) (by omega)]
theorem y_BS (h : RB s o nf no mo t.1) (hE : 1000 ≤ E.1) (hN : no ≤ 16) (f : Int32) : t_X6_bestSite_l32 E E.1 f (-1 : Int32) (0 : Int32) t = some (told (bs s o no f 900), t) := by
  rw [← w_eq]
  have hcc : ∀ k, k < no → ∃ e, e < 900 ∧ s.2.1 (o + 170 + k) 0 = Int32.ofNat e := fun k hk => by
    obtain ⟨e, he, h0, _⟩ := r_oce h hk
    exact ⟨e, he, h0⟩
  refine w_lp (L := fun m i a => t_X6_bestSite_l32 E m f a i t) (n := 900) (by decide) (Inv := fun j a => a = enb (bs s o no f j)) (fun m j a hj ha k => ?_) (fun m a ha => ?_) 900 0 E.1 (-1 : Int32) rfl (by omega) rfl
  · show Ww (t_X6_bestSite_l32 E (m + 1) f a (Int32.ofNat j) t) _
    have hb := bs_lt s o no f j (by omega)
    have stay : ¬ (cand s o no f j ∧ (bs s o no f j = 900 ∨ NE s o (bs s o no f j) (-1) no < NE s o j (-1) no)) → Ww (t_X6_bestSite_l32 E m f a (Int32.ofNat (j + 1)) t) (fun z => z = (told (bs s o no f 900), t)) := fun hn => k a (by rw [bs_n hn]; exact ha)
    have take : (cand s o no f j ∧ (bs s o no f j = 900 ∨ NE s o (bs s o no f j) (-1) no < NE s o j (-1) no)) → Ww (t_X6_bestSite_l32 E m f (Int32.ofNat j) (Int32.ofNat (j + 1)) t) (fun z => z = (told (bs s o no f 900), t)) := fun hy => k (Int32.ofNat j) (by rw [bs_y hy]; exact (enb_n (by omega)).symm)
    unfold t_X6_bestSite_l32 t_X6_bestSite_b86 t_X6_bestSite_b88
    rw [if_neg (le900 hj), y_cell hj, b1_some, r_cel h hj, y_HO h hE hN, b2_some, i32_s]
    by_cases hc : s.2.1 (o + 16) j = f
    · rw [if_pos (i32_64_inj.mpr hc)]
      by_cases h1 : HO s o no (Int32.ofNat j)
      · rw [if_neg (by rw [bi_t h1]; decide)]
        exact stay (fun q => q.1.2 h1)
      · rw [if_pos (bi_f h1)]
        by_cases h2 : bs s o no f j = 900
        · rw [if_pos (by rw [ha, enb_e h2])]
          exact take ⟨⟨hc, h1⟩, Or.inl h2⟩
        · have hb2 : bs s o no f j < 900 := by omega
          have ea : a = Int32.ofNat (bs s o no f j) := by rw [ha, enb_n h2]
          rw [if_neg (by rw [ea]; exact i32_neg1 (by omega)), y_NE h hE hN hj, b2_some]
          have e2 : t_X6_nearestOutlet E a (-1 : Int32) t = some (nn (NE s o (bs s o no f j) (-1) no), t) := by rw [ea]; exact y_NE h hE hN hb2 _
          rw [e2, b2_some]
          obtain ⟨i1, i2⟩ := NE_all (s := s) (o := o) (f := -1) hj hb2 no hcc
          obtain ⟨_, i3⟩ := NE_all (s := s) (o := o) (f := -1) hb2 hj no hcc
          have cmp := nn_cmp i2 i3 i1
          by_cases h3 : NE s o (bs s o no f j) (-1) no < NE s o j (-1) no
          · rw [if_neg (fun q => by have := cmp.mp q; omega)]
            exact take ⟨⟨hc, h1⟩, Or.inr h3⟩
          · rw [if_pos (cmp.mpr (by omega))]
            exact stay (fun q => q.2.elim h2 h3)
    · rw [if_neg (fun q => hc (i32_64_inj.mp q))]
      exact stay (fun q => hc q.1.1)
  · show Ww (t_X6_bestSite_l32 E (m + 1) f a (Int32.ofNat 900) t) _
    have hb := bs_lt s o no f 900 (by omega)
    unfold t_X6_bestSite_l32 t_X6_bestSite_b115
    rw [if_pos (re900), ha]
    by_cases q : bs s o no f 900 = 900
    · rw [if_pos (enb_e q), w_some]
      unfold told
      rw [if_pos q]
    · rw [if_neg (by rw [enb_n q]; exact i32_neg1 (by omega)), enb_n q, i32_mod30 (by omega), i32_div30 (by omega), w_some]
      unfold told
      rw [if_neg q, Int32.ofNat_add, Int32.ofNat_mul]
      rfl
end LTT
