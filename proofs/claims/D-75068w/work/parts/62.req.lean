/-! truth values laid into a new array, and asked -/
set_option maxRecDepth 100000
/-- g with a new array of n truth values -/
def gt (g : zH) (n : Nat) (f : Nat → Int32) : zH := zadd g (true, .inl (3, n, .inl f)) n
/-- g with a new exception of class ci -/
def ge (g : zH) (ci : Nat) : zH := zadd g (true, .inr (ci, [])) 6
theorem gt_at (g : zH) (n : Nat) (f : Nat → Int32) : (gt g n f).1 g.2.1 = some (true, .inl (3, n, .inl f)) := cu_same _ _ _
theorem ge_at (g : zH) (ci : Nat) : (ge g ci).1 g.2.1 = some (true, .inr (ci, [])) := cu_same _ _ _
theorem gx_gt (g : zH) (n : Nat) (f : Nat → Int32) : gx g (gt g n f) 1 n := gx_add g _ n
theorem gx_ge (g : zH) (ci : Nat) : gx g (ge g ci) 1 6 := gx_add g _ 6
theorem gt_set (g : zH) (n : Nat) (f : Nat → Int32) (j : Nat) (v : Int32) : zup (gt g n f) g.2.1 (true, .inl (3, n, .inl (va_up f j v))) = gt g n (va_up f j v) := by
  refine Prod.ext ?_ rfl
  funext a
  show va_up (va_up g.1 g.2.1 _) g.2.1 _ a = va_up g.1 g.2.1 _ a
  by_cases h : a = g.2.1
  · subst h
    rw [cu_same, cu_same]
  · rw [cu_ne _ _ h, cu_ne _ _ h, cu_ne _ _ h]
/-- none of f j .. f (j + k - 1) is 0 -/
def gall (f : Nat → Int32) : Nat → Nat → Bool
  | _, 0 => true
  | j, k + 1 => if f j = 0 then false else gall f (j + 1) k
section RQ
variable {p : cP} {s : cT} {g : zH}
theorem n_new (ho : okG p g) {n : Nat} (hn : n < 100) (hr : rm g 1 n) {x : Int32} (hx : x = Int32.ofNat n) : nA (cH p s g) 3 x (.inl fun _ => 0) = some (g.2.1, cH p s (gt g n fun _ => 0)) := by
  subst hx
  rw [r_nA (ho _ (Nat.le_refl _))]
  unfold nA
  rw [nat_clamp (by omega), if_pos ⟨i32_nneg (by omega), by omega, hr.1, hr.2⟩]
  rfl
theorem n_set (ho : okG p g) {n : Nat} {f : Nat → Int32} {j : Nat} (hj : j < n) (hn : n < 100) {v x : Int32} (hx : x = Int32.ofNat j) : sI (cH p s (gt g n f)) g.2.1 3 x v = some (cH p s (gt g n (va_up f j v))) := by
  subst hx
  rw [r_sI (ho _ (Nat.le_refl _))]
  unfold sI
  rw [gt_at]
  show ((if 3 = 3 ∧ ¬ (Int32.ofNat j < 0 ∨ n ≤ (Int32.ofNat j).toNatClampNeg) then some (zup (gt g n f) g.2.1 (true, .inl (3, n, .inl (va_up f (Int32.ofNat j).toNatClampNeg v)))) else none).map _ : Option zH) = _
  rw [nat_clamp (by omega), if_pos ⟨rfl, fun h => h.elim (i32_nneg (by omega)) (by omega)⟩, gt_set]
  rfl
theorem n_nO (ho : okG p g) (hr : rm g 1 6) (ci : Nat) : nO (cH p s g) ci 6 [] = some (g.2.1, cH p s (ge g ci)) := by
  rw [r_nO (ho _ (Nat.le_refl _))]
  unfold nO
  rw [if_pos ⟨hr.1, hr.2⟩]
  rfl
theorem n_ckt (ho : okG p g) (ci : Nat) : ckt (cH p s (ge g ci)) g.2.1 ci = some () := by
  unfold ckt
  rw [cH_raw (ho _ (Nat.le_refl _)), ge_at]
  exact if_pos rfl
theorem gt_dI (ho : okG p g) {n : Nat} {f : Nat → Int32} {j : Nat} (hj : j < n) (hn : n < 100) : dI (cH p s (gt g n f)) g.2.1 3 (Int32.ofNat j) = some (f j) := by
  rw [r_dI (ho _ (Nat.le_refl _))]
  unfold dI
  rw [gt_at]
  show (if 3 = 3 ∧ ¬ (Int32.ofNat j < 0 ∨ n ≤ (Int32.ofNat j).toNatClampNeg) then some (f (Int32.ofNat j).toNatClampNeg) else none) = _
  rw [nat_clamp (by omega), if_pos ⟨rfl, fun h => h.elim (i32_nneg (by omega)) (by omega)⟩]
theorem gt_len (ho : okG p g) {n : Nat} {f : Nat → Int32} : lenA (cH p s (gt g n f)) g.2.1 = some (Int32.ofNat n) := by
  rw [r_len (ho _ (Nat.le_refl _))]
  unfold lenA
  rw [gt_at]
theorem b_reqIndex_l (E : zE) (ho : okG p g) {n : Nat} {f : Nat → Int32} (hn : n < 100) (hr : rm (gt g n f) 1 6) : ∀ (k j : Nat), j + k = n → ∀ m, k < m → f_X1_requireIndex_l7 E m g.2.1 (Int32.ofNat n) (Int32.ofNat j) (cH p s (gt g n f)) = some (if gall f j k = true then (.inl (), cH p s (gt g n f)) else (.inr (20, g.2.1 + 1), cH p s (ge (gt g n f) 20))) := by
  intro k
  induction k with
  | zero =>
    intro j hj m hm
    obtain ⟨m, rfl⟩ : ∃ m1, m = m1 + 1 := ⟨m - 1, by omega⟩
    unfold f_X1_requireIndex_l7
    rw [if_pos (by rw [show j = n by omega]; exact Int32.le_refl _)]
    rfl
  | succ k ih =>
    intro j hj m hm
    obtain ⟨m, rfl⟩ : ∃ m1, m = m1 + 1 := ⟨m - 1, by omega⟩
    have hj2 : j < 2 ^ 31 := by omega
    unfold f_X1_requireIndex_l7 gall
    rw [if_neg (by rw [Int32.not_le]; exact (i32_lt hj2 (by omega)).mpr (by omega)), gt_dI ho (by omega) hn]
    by_cases hz : f j = 0
    · refine (if_pos hz).trans ?_
      rw [if_pos hz, n_nO (okG_gx ho (gx_gt g n f)) hr]
      show ((ckt (cH p s (ge (gt g n f) 20)) (gt g n f).2.1 20).bind _) = _
      rw [n_ckt (okG_gx ho (gx_gt g n f))]
      rfl
    · refine (if_neg hz).trans ?_
      rw [if_neg hz, show Int32.ofNat j + 1 = Int32.ofNat (j + 1) from (Int32.ofNat_add j 1).symm]
      exact ih (j + 1) (by omega) m (by omega)
theorem b_reqIndex (E : zE) (hE : 100 ≤ E.1) (ho : okG p g) {n : Nat} {f : Nat → Int32} (hn : n < 100) (hr : rm (gt g n f) 1 6) : f_X1_requireIndex E g.2.1 (cH p s (gt g n f)) = some (if gall f 0 n = true then (.inl (), cH p s (gt g n f)) else (.inr (20, g.2.1 + 1), cH p s (ge (gt g n f) 20))) := by
  unfold f_X1_requireIndex f_X1_requireIndex_b0
  rw [gt_len ho]
  exact b_reqIndex_l E ho hn hr n 0 (by omega) E.1 (by omega)
theorem b_reqArguments_l (E : zE) (ho : okG p g) {n : Nat} {f : Nat → Int32} (hn : n < 100) (hr : rm (gt g n f) 1 6) : ∀ (k j : Nat), j + k = n → ∀ m, k < m → f_X1_requireArguments_l7 E m g.2.1 (Int32.ofNat n) (Int32.ofNat j) (cH p s (gt g n f)) = some (if gall f j k = true then (.inl (), cH p s (gt g n f)) else (.inr (21, g.2.1 + 1), cH p s (ge (gt g n f) 21))) := by
  intro k
  induction k with
  | zero =>
    intro j hj m hm
    obtain ⟨m, rfl⟩ : ∃ m1, m = m1 + 1 := ⟨m - 1, by omega⟩
    unfold f_X1_requireArguments_l7
    rw [if_pos (by rw [show j = n by omega]; exact Int32.le_refl _)]
    rfl
  | succ k ih =>
    intro j hj m hm
    obtain ⟨m, rfl⟩ : ∃ m1, m = m1 + 1 := ⟨m - 1, by omega⟩
    have hj2 : j < 2 ^ 31 := by omega
    unfold f_X1_requireArguments_l7 gall
    rw [if_neg (by rw [Int32.not_le]; exact (i32_lt hj2 (by omega)).mpr (by omega)), gt_dI ho (by omega) hn]
    by_cases hz : f j = 0
    · refine (if_pos hz).trans ?_
      rw [if_pos hz, n_nO (okG_gx ho (gx_gt g n f)) hr]
      show ((ckt (cH p s (ge (gt g n f) 21)) (gt g n f).2.1 21).bind _) = _
      rw [n_ckt (okG_gx ho (gx_gt g n f))]
      rfl
    · refine (if_neg hz).trans ?_
      rw [if_neg hz, show Int32.ofNat j + 1 = Int32.ofNat (j + 1) from (Int32.ofNat_add j 1).symm]
      exact ih (j + 1) (by omega) m (by omega)
theorem b_reqArguments (E : zE) (hE : 100 ≤ E.1) (ho : okG p g) {n : Nat} {f : Nat → Int32} (hn : n < 100) (hr : rm (gt g n f) 1 6) : f_X1_requireArguments E g.2.1 (cH p s (gt g n f)) = some (if gall f 0 n = true then (.inl (), cH p s (gt g n f)) else (.inr (21, g.2.1 + 1), cH p s (ge (gt g n f) 21))) := by
  unfold f_X1_requireArguments f_X1_requireArguments_b0
  rw [gt_len ho]
  exact b_reqArguments_l E ho hn hr n 0 (by omega) E.1 (by omega)
end RQ
