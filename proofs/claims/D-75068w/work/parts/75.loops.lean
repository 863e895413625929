/-! loops over franchisees and outlets-/
set_option maxRecDepth 100000
def TO (s : cT) (o nf : Nat) : Int64 := sml (fun i => if (0 : Int64) < s.2.2.1 (o + 130 + i) 8 then s.2.2.1 (o + 130 + i) 8 else 0) nf
def CO (s : cT) (o nf : Nat) : Int64 := sml (fun i => s.2.2.1 (o + 130 + i) 9) nf
def FU (s : cT) (o nf : Nat) : Int64 := CO s o nf - s.2.2.1 (o + 20) 0 - s.2.2.1 (o + 20) 1 - s.2.2.1 (o + 20) 2
def HOk (s : cT) (o k : Nat) (c : Int32) : Prop := ¬ s.2.1 (o + 170 + k) 1 = -1 ∧ s.2.1 (o + 170 + k) 0 = c
def HO (s : cT) (o no : Nat) (c : Int32) : Prop := ∃ k, k < no ∧ HOk s o k c
def SA (s : cT) (o no : Nat) (f pc : Int32) : Int64 := sml (fun k => if s.2.1 (o + 170 + k) 1 = f then s.2.2.1 (o + 170 + k) 2 * pc.toInt64 / 100 else 0) no
def RC (s : cT) (o f mo : Nat) : Int64 := sml (fun m => s.2.2.1 (o + 160 + f) m) mo
theorem i64_nle {n j : Nat} (hn : n < 2 ^ 31) (hj : j < n) : ¬ Int64.ofNat n ≤ (Int32.ofNat j).toInt64 := by rw [i32_64 (by omega), i64_le (by omega) (by omega)]; omega
theorem i64_nre {n : Nat} (hn : n < 2 ^ 31) : Int64.ofNat n ≤ (Int32.ofNat n).toInt64 := by rw [i32_64 (by omega)]; exact Int64.le_refl _
theorem x_max2 {E : zE} {N : iN} {s : cT} {g : zH} (a b : Int64) : c_J12_max_2 E N a b s g = some (if a < b then b else a, (s, g)) := by
  unfold c_J12_max_2 c_J12_max_2_b0 c_J12_max_2_b11
  by_cases h : a < b
  · rw [if_pos h, if_pos h]
  · rw [if_neg h, if_neg h]
theorem x_min2 {E : zE} {N : iN} {s : cT} {g : zH} (a b : Int64) : c_J12_min_2 E N a b s g = some (if b < a then b else a, (s, g)) := by
  unfold c_J12_min_2 c_J12_min_2_b0 c_J12_min_2_b11
  by_cases h : b < a
  · rw [if_pos h, if_pos h]
  · rw [if_neg h, if_neg h]
theorem x_max {E : zE} {N : iN} {s : cT} {g : zH} (a b : Int32) : c_J12_max E N a b s g = some (if a < b then b else a, (s, g)) := by
  unfold c_J12_max c_J12_max_b0 c_J12_max_b10
  by_cases h : a < b
  · rw [if_pos h, if_pos h]
  · rw [if_neg h, if_neg h]
theorem x_min {E : zE} {N : iN} {s : cT} {g : zH} (a b : Int32) : c_J12_min E N a b s g = some (if b < a then b else a, (s, g)) := by
  unfold c_J12_min c_J12_min_b0 c_J12_min_b10
  by_cases h : b < a
  · rw [if_pos h, if_pos h]
  · rw [if_neg h, if_neg h]
theorem x_abs {E : zE} {N : iN} {s : cT} {g : zH} (a : Int32) : c_J12_abs E N a s g = some (if 0 ≤ a then a else -a, (s, g)) := by
  unfold c_J12_abs c_J12_abs_b0 c_J12_abs_b10
  by_cases h : 0 ≤ a
  · rw [if_pos h, if_pos h]
  · rw [if_neg h, if_neg h]
theorem y_size {E : zE} {t : twS} (a : Int32) : t_X6_size E a t = some (if 0 ≤ a then a else -a, t) := by
  unfold t_X6_size t_X6_size_b0 t_X6_size_b10
  by_cases h : 0 ≤ a
  · rw [if_pos h, if_pos h]
  · rw [if_neg h, if_neg h]
section LC
variable {E : zE} {N : iN} {s : cT} {g : zH}
theorem x_TO (hE : 1000 ≤ E.1) (hN : N.2.1 ≤ 8) : c_X1_totalOwed E N s g = some (TO s N.1 N.2.1, (s, g)) := by
  rw [← w_eq]
  unfold c_X1_totalOwed c_X1_totalOwed_b0
  refine w_lp (L := fun m i a => c_X1_totalOwed_l4 E N m a i s g) (n := N.2.1) (by omega) (Inv := fun j a => a = TO s N.1 j) (fun m j a hj ha k => ?_) (fun m a ha => ?_) N.2.1 0 E.1 0 (by omega) (by omega) rfl
  · show Ww (c_X1_totalOwed_l4 E N (m + 1) a (Int32.ofNat j) s g) _
    unfold c_X1_totalOwed_l4
    rw [if_neg (le_ofn (by omega) hj), cGet_of hj (by omega), b1_some, x_max2, b2_some, i32_s]
    exact k _ (by rw [ha]; rfl)
  · show Ww (c_X1_totalOwed_l4 E N (m + 1) a (Int32.ofNat N.2.1) s g) _
    unfold c_X1_totalOwed_l4
    rw [if_pos (Int32.le_refl _), w_some, ha]
theorem x_CO (hE : 1000 ≤ E.1) (hN : N.2.1 ≤ 8) : c_X4_contributions E N s g = some (CO s N.1 N.2.1, (s, g)) := by
  rw [← w_eq]
  unfold c_X4_contributions c_X4_contributions_b0
  refine w_lp (L := fun m i a => c_X4_contributions_l4 E N m a i s g) (n := N.2.1) (by omega) (Inv := fun j a => a = CO s N.1 j) (fun m j a hj ha k => ?_) (fun m a ha => ?_) N.2.1 0 E.1 0 (by omega) (by omega) rfl
  · show Ww (c_X4_contributions_l4 E N (m + 1) a (Int32.ofNat j) s g) _
    unfold c_X4_contributions_l4
    rw [if_neg (le_ofn (by omega) hj), cGet_of hj (by omega), b1_some, i32_s]
    exact k _ (by rw [ha]; rfl)
  · show Ww (c_X4_contributions_l4 E N (m + 1) a (Int32.ofNat N.2.1) s g) _
    unfold c_X4_contributions_l4
    rw [if_pos (Int32.le_refl _), w_some, ha]
theorem x_FU (hE : 1000 ≤ E.1) (hN : N.2.1 ≤ 8) : c_X4_fund E N s g = some (FU s N.1 N.2.1, (s, g)) := by
  unfold c_X4_fund c_X4_fund_b0
  rw [x_CO hE hN, b2_some]
  show (cdL s (N.1 + 20) 3 (Int32.ofNat 0)).bind (fun x7 => (cdL s (N.1 + 20) 3 (Int32.ofNat 1)).bind fun x11 => (cdL s (N.1 + 20) 3 (Int32.ofNat 2)).bind fun x15 => _) = _
  rw [cdL_of (by decide) (by decide), b1_some, cdL_of (by decide) (by decide), b1_some, cdL_of (by decide) (by decide), b1_some]
  rfl
theorem x_HO (hE : 1000 ≤ E.1) (hN : N.2.2.1 ≤ 16) (c : Int32) : c_X4_hasOutlet E N c s g = some (bi (HO s N.1 N.2.2.1 c), (s, g)) := by
  rw [← w_eq]
  unfold c_X4_hasOutlet c_X4_hasOutlet_b0
  refine w_lp (σ := Unit) (L := fun m i a => c_X4_hasOutlet_l2 E N m c i s g) (n := N.2.2.1) (by omega) (Inv := fun j a => ¬ HO s N.1 j c) (fun m j a hj ha k => ?_) (fun m a ha => ?_) N.2.2.1 0 E.1 () (by omega) (by omega) (fun h => by obtain ⟨k, hk, _⟩ := h; omega)
  · show Ww (c_X4_hasOutlet_l2 E N (m + 1) c (Int32.ofNat j) s g) _
    unfold c_X4_hasOutlet_l2 c_X4_hasOutlet_b56
    have next : ¬ HOk s N.1 j c → Ww (c_X4_hasOutlet_l2 E N m c (Int32.ofNat (j + 1)) s g) (fun z => z = (bi (HO s N.1 N.2.2.1 c), (s, g))) := fun hk => k () (fun h => by
      obtain ⟨q, hq, h⟩ := h
      by_cases e : q = j
      · subst e; exact hk h
      · exact ha ⟨q, by omega, h⟩)
    rw [if_neg (le_ofn (by omega) hj), cGet_of hj (by omega), b1_some, x_isOp, b2_some, i32_s, b1_some]
    by_cases h1 : s.2.1 (N.1 + 170 + j) 1 = -1
    · rw [if_pos (bi_f (fun q => q h1))]
      exact next (fun q => q.1 h1)
    · rw [if_neg (by rw [bi_t h1]; decide)]
      by_cases h2 : s.2.1 (N.1 + 170 + j) 0 = c
      · rw [if_pos h2, w_some, bi_t ⟨j, hj, h1, h2⟩]
      · rw [if_neg h2]
        exact next (fun q => h2 q.2)
  · show Ww (c_X4_hasOutlet_l2 E N (m + 1) c (Int32.ofNat N.2.2.1) s g) _
    unfold c_X4_hasOutlet_l2
    rw [if_pos (Int32.le_refl _), w_some, bi_f ha]
theorem x_SA (hE : 1000 ≤ E.1) (hN : N.2.2.1 ≤ 16) (f pc : Int32) : c_X4_sales E N f pc s g = some (SA s N.1 N.2.2.1 f pc, (s, g)) := by
  rw [← w_eq]
  unfold c_X4_sales c_X4_sales_b0
  refine w_lp (L := fun m i a => c_X4_sales_l5 E N m f pc a i s g) (n := N.2.2.1) (by omega) (Inv := fun j a => a = SA s N.1 j f pc) (fun m j a hj ha k => ?_) (fun m a ha => ?_) N.2.2.1 0 E.1 0 (by omega) (by omega) rfl
  · show Ww (c_X4_sales_l5 E N (m + 1) f pc a (Int32.ofNat j) s g) _
    unfold c_X4_sales_l5 c_X4_sales_b69
    rw [if_neg (le_ofn (by omega) hj), cGet_of hj (by omega), b1_some, i32_s, b1_some]
    by_cases h : s.2.1 (N.1 + 170 + j) 1 = f
    · rw [if_pos h]
      exact k _ (by rw [ha]; show _ = SA s N.1 j f pc + (if _ then _ else _); rw [if_pos h])
    · rw [if_neg h]
      exact k _ (by rw [ha]; show _ = SA s N.1 j f pc + (if _ then _ else _); rw [if_neg h])
  · show Ww (c_X4_sales_l5 E N (m + 1) f pc a (Int32.ofNat N.2.2.1) s g) _
    unfold c_X4_sales_l5
    rw [if_pos (Int32.le_refl _), w_some, ha]
theorem x_RC (hE : 1000 ≤ E.1) (f mo : Nat) (hm : mo ≤ 60) : c_X11_salesOf E N f (Int32.ofNat mo) s g = some (RC s N.1 f mo, (s, g)) := by
  rw [← w_eq]
  unfold c_X11_salesOf c_X11_salesOf_b0
  refine w_lp (L := fun m i a => c_X11_salesOf_l5 E N m f (Int32.ofNat mo) a i s g) (n := mo) (by omega) (Inv := fun j a => a = RC s N.1 f j) (fun m j a hj ha k => ?_) (fun m a ha => ?_) mo 0 E.1 0 (by omega) (by omega) rfl
  · show Ww (c_X11_salesOf_l5 E N (m + 1) f (Int32.ofNat mo) a (Int32.ofNat j) s g) _
    unfold c_X11_salesOf_l5
    rw [if_neg (le_ofn (by omega) hj), cdL_of (by omega) (by decide), b1_some, i32_s]
    exact k _ (by rw [ha]; rfl)
  · show Ww (c_X11_salesOf_l5 E N (m + 1) f (Int32.ofNat mo) a (Int32.ofNat mo) s g) _
    unfold c_X11_salesOf_l5
    rw [if_pos (Int32.le_refl _), w_some, ha]
end LC
section LTT
variable {E : zE} {t : twS} {s : cT} {o nf no mo : Nat}
theorem y_TO (h : RB s o nf no mo t.1) (hE : 1000 ≤ E.1) (hN : nf ≤ 8) : t_X6_totalOwed E t = some (TO s o nf, uSc t 2 0) := by
  rw [← w_eq]
  unfold t_X6_totalOwed t_X6_totalOwed_b0
  refine w_lp (L := fun m i a => t_X6_totalOwed_l9 E m a i (uSc t 2 0)) (n := nf) (by omega) (Inv := fun j a => a = TO s o j) (fun m j a hj ha k => ?_) (fun m a ha => ?_) nf 0 E.1 0 (by omega) (by omega) rfl
  · show Ww (t_X6_totalOwed_l9 E (m + 1) a (Int32.ofNat j) (uSc t 2 0)) _
    unfold t_X6_totalOwed_l9 t_X6_totalOwed_b43
    rw [y_d2, b1_some, uSc_1, r_nf h, if_neg (i64_nle (by omega) hj), y_of4 (by omega), b2_some, i32_s, uSc_1, r_bal h hj]
    by_cases hc : s.2.2.1 (o + 130 + j) 8 ≤ 0
    · rw [if_pos hc]
      exact k _ (by rw [ha]; show _ = TO s o j + (if _ then _ else _); rw [if_neg (Int64.not_lt.mpr hc)])
    · rw [if_neg hc, y_of4 (by omega), b2_some, uSc_1, r_bal h hj]
      exact k _ (by rw [ha]; show _ = TO s o j + (if _ then _ else _); rw [if_pos (Int64.not_le.mp hc)])
  · show Ww (t_X6_totalOwed_l9 E (m + 1) a (Int32.ofNat nf) (uSc t 2 0)) _
    unfold t_X6_totalOwed_l9
    rw [y_d2, b1_some, uSc_1, r_nf h, if_pos (i64_nre (by omega)), w_some, ha]
theorem y_CO (h : RB s o nf no mo t.1) (hE : 1000 ≤ E.1) (hN : nf ≤ 8) : t_X6_allContributions E t = some (CO s o nf, t) := by
  rw [← w_eq]
  unfold t_X6_allContributions t_X6_allContributions_b0
  refine w_lp (L := fun m i a => t_X6_allContributions_l4 E m a i t) (n := nf) (by omega) (Inv := fun j a => a = CO s o j) (fun m j a hj ha k => ?_) (fun m a ha => ?_) nf 0 E.1 0 (by omega) (by omega) rfl
  · show Ww (t_X6_allContributions_l4 E (m + 1) a (Int32.ofNat j) t) _
    unfold t_X6_allContributions_l4
    rw [y_d2, b1_some, r_nf h, if_neg (i64_nle (by omega) hj), y_of7 (by omega), b2_some, i32_s, r_con h hj]
    exact k _ (by rw [ha]; rfl)
  · show Ww (t_X6_allContributions_l4 E (m + 1) a (Int32.ofNat nf) t) _
    unfold t_X6_allContributions_l4
    rw [y_d2, b1_some, r_nf h, if_pos (i64_nre (by omega)), w_some, ha]
theorem y_FU (h : RB s o nf no mo t.1) (hE : 1000 ≤ E.1) (hN : nf ≤ 8) : t_X6_fund E t = some (FU s o nf, t) := by
  unfold t_X6_fund t_X6_fund_b0
  rw [y_CO h hE hN, b2_some]
  show (tdL t 1 (11 : Int32)).bind (fun x7 => (tdL t 1 (12 : Int32)).bind fun x11 => (tdL t 1 (13 : Int32)).bind fun x15 => _) = _
  rw [y_d11, b1_some, y_d12, b1_some, y_d13, b1_some, r_sp0 h, r_sp1 h, r_sp2 h]
  rfl
theorem y_cellOf (h : RB s o nf no mo t.1) (hN : no ≤ 16) {k : Nat} (hk : k < no) : ∃ e, e < 900 ∧ s.2.1 (o + 170 + k) 0 = Int32.ofNat e ∧ t_X6_cellOf E (Int32.ofNat k) t = some (Int32.ofNat e, t) := by
  obtain ⟨e, he, h0, h1, h2⟩ := r_oce h hk
  refine ⟨e, he, h0, ?_⟩
  unfold t_X6_cellOf t_X6_cellOf_b0
  rw [y_oo2 (by omega), b2_some, y_oo1 (by omega), b2_some, h1, h2]
  show some ((Int64.ofNat 30 * Int64.ofNat (e / 30) + Int64.ofNat (e % 30)).toInt32, t) = _
  rw [← Int64.ofNat_mul, ← Int64.ofNat_add, i64_32, show 30 * (e / 30) + e % 30 = e by omega]
theorem i64_m1 {x : Int32} : x.toInt64 = (-1 : Int64) ↔ x = -1 := by
  rw [show (-1 : Int64) = (-1 : Int32).toInt64 by decide, i32_64_inj]
theorem y_HO (h : RB s o nf no mo t.1) (hE : 1000 ≤ E.1) (hN : no ≤ 16) (c : Int32) : t_X6_hasOutlet E c t = some (bi (HO s o no c), t) := by
  rw [← w_eq]
  unfold t_X6_hasOutlet t_X6_hasOutlet_b0
  refine w_lp (σ := Unit) (L := fun m i a => t_X6_hasOutlet_l2 E m c i t) (n := no) (by omega) (Inv := fun j a => ¬ HO s o j c) (fun m j a hj ha k => ?_) (fun m a ha => ?_) no 0 E.1 () (by omega) (by omega) (fun h => by obtain ⟨k, hk, _⟩ := h; omega)
  · show Ww (t_X6_hasOutlet_l2 E (m + 1) c (Int32.ofNat j) t) _
    unfold t_X6_hasOutlet_l2 t_X6_hasOutlet_b33
    have next : ¬ HOk s o j c → Ww (t_X6_hasOutlet_l2 E m c (Int32.ofNat (j + 1)) t) (fun z => z = (bi (HO s o no c), t)) := fun hk => k () (fun h => by
      obtain ⟨q, hq, h⟩ := h
      by_cases e : q = j
      · subst e; exact hk h
      · exact ha ⟨q, by omega, h⟩)
    obtain ⟨e, he, h0, hce⟩ := y_cellOf (E := E) h hN hj
    rw [y_d3, b1_some, r_no h, if_neg (i64_nle (by omega) hj), y_isOpen (by omega), b2_some, i32_s, r_own h hj, hce, b2_some]
    by_cases h1 : s.2.1 (o + 170 + j) 1 = -1
    · rw [if_pos (bi_f (fun q => q (i64_m1.mpr h1)))]
      exact next (fun q => q.1 h1)
    · rw [if_neg (by rw [bi_t (fun q => h1 (i64_m1.mp q))]; decide)]
      by_cases h2 : s.2.1 (o + 170 + j) 0 = c
      · rw [if_pos (by rw [← h0]; exact h2), w_some, bi_t ⟨j, hj, h1, h2⟩]
      · rw [if_neg (by rw [← h0]; exact h2)]
        exact next (fun q => h2 q.2)
  · show Ww (t_X6_hasOutlet_l2 E (m + 1) c (Int32.ofNat no) t) _
    unfold t_X6_hasOutlet_l2
    rw [y_d3, b1_some, r_no h, if_pos (i64_nre (by omega)), w_some, bi_f ha]
theorem y_SA (h : RB s o nf no mo t.1) (hE : 1000 ≤ E.1) (hN : no ≤ 16) (f pc : Int32) : t_X6_salesNow E f pc t = some (SA s o no f pc, t) := by
  rw [← w_eq]
  unfold t_X6_salesNow t_X6_salesNow_b0
  refine w_lp (L := fun m i a => t_X6_salesNow_l5 E m f pc a i t) (n := no) (by omega) (Inv := fun j a => a = SA s o j f pc) (fun m j a hj ha k => ?_) (fun m a ha => ?_) no 0 E.1 0 (by omega) (by omega) rfl
  · show Ww (t_X6_salesNow_l5 E (m + 1) f pc a (Int32.ofNat j) t) _
    unfold t_X6_salesNow_l5 t_X6_salesNow_b48
    rw [y_d3, b1_some, r_no h, if_neg (i64_nle (by omega) hj), y_oo0 (by omega), b2_some, i32_s, r_own h hj, y_oo3 (by omega), b2_some, r_osa h hj]
    by_cases hc : s.2.1 (o + 170 + j) 1 = f
    · rw [if_pos (i32_64_inj.mpr hc)]
      exact k _ (by rw [ha]; show _ = SA s o j f pc + (if _ then _ else _); rw [if_pos hc])
    · rw [if_neg (fun q => hc (i32_64_inj.mp q))]
      exact k _ (by rw [ha]; show _ = SA s o j f pc + (if _ then _ else _); rw [if_neg hc]; exact (Int64.add_zero _).symm)
  · show Ww (t_X6_salesNow_l5 E (m + 1) f pc a (Int32.ofNat no) t) _
    unfold t_X6_salesNow_l5
    rw [y_d3, b1_some, r_no h, if_pos (i64_nre (by omega)), w_some, ha]
theorem y_RC (h : RB s o nf no mo t.1) (hE : 1000 ≤ E.1) (hN : nf ≤ 8) (hm : mo ≤ 60) {f : Nat} (hf : f < nf) : t_X6_recordedInAll E (Int32.ofNat f) t = some (RC s o f mo, t) := by
  rw [← w_eq]
  unfold t_X6_recordedInAll t_X6_recordedInAll_b0
  refine w_lp (L := fun m i a => t_X6_recordedInAll_l5 E m (Int32.ofNat f) a i t) (n := mo) (by omega) (Inv := fun j a => a = RC s o f j) (fun m j a hj ha k => ?_) (fun m a ha => ?_) mo 0 E.1 0 (by omega) (by omega) rfl
  · show Ww (t_X6_recordedInAll_l5 E (m + 1) (Int32.ofNat f) a (Int32.ofNat j) t) _
    unfold t_X6_recordedInAll_l5
    rw [y_d0, b1_some, r_mo h, if_neg (i64_nle (by omega) hj), y_rec (by omega) (by omega), b2_some, i32_s, r_rec h hf hj]
    exact k _ (by rw [ha]; rfl)
  · show Ww (t_X6_recordedInAll_l5 E (m + 1) (Int32.ofNat f) a (Int32.ofNat mo) t) _
    unfold t_X6_recordedInAll_l5
    rw [y_d0, b1_some, r_mo h, if_pos (i64_nre (by omega)), w_some, ha]
end LTT
