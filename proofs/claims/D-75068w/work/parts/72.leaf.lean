/-! small methods of the component on tables; rules for Ww -/
set_option maxRecDepth 100000
theorem bi_if {p : Prop} {d : Decidable p} : (if p then (1 : Int32) else 0) = bi p := bi_of Iff.rfl
theorem bi_30 {x : Int32} : bi ((0 : Int64) ≤ x.toInt64 ∧ x.toInt64 ≤ (29 : Int64)) = bi (inF x 30) := bi_c inF_30
theorem bi_nf {x : Int32} {n : Nat} (hn : n < 2 ^ 31) : bi ((0 : Int64) ≤ x.toInt64 ∧ x.toInt64 ≤ (Int32.ofNat n - 1).toInt64) = bi (inF x n) := bi_c (inF_iff x hn)
theorem gb1 (a : Prop) : gall (va_up (fun _ => 0) 0 (bi a)) 0 1 = true ↔ a := by
  by_cases h : a
  · rw [bi_t h]; exact ⟨fun _ => h, fun _ => by decide⟩
  · rw [bi_f h]; exact ⟨fun q => absurd q (by decide), fun q => absurd q h⟩
theorem gb2 (a b : Prop) : gall (va_up (va_up (fun _ => 0) 0 (bi a)) 1 (bi b)) 0 2 = true ↔ a ∧ b := by
  by_cases h : a
  · by_cases h1 : b
    · rw [bi_t h, bi_t h1]; exact ⟨fun _ => ⟨h, h1⟩, fun _ => by decide⟩
    · rw [bi_t h, bi_f h1]; exact ⟨fun q => absurd q (by decide), fun q => absurd q.2 h1⟩
  · by_cases h1 : b
    · rw [bi_f h, bi_t h1]; exact ⟨fun q => absurd q (by decide), fun q => absurd q.1 h⟩
    · rw [bi_f h, bi_f h1]; exact ⟨fun q => absurd q (by decide), fun q => absurd q.1 h⟩
theorem gb4 (a b c d : Prop) : gall (va_up (va_up (va_up (va_up (fun _ => 0) 0 (bi a)) 1 (bi b)) 2 (bi c)) 3 (bi d)) 0 4 = true ↔ a ∧ b ∧ c ∧ d := by
  by_cases h : a <;> by_cases h1 : b <;> by_cases h2 : c <;> by_cases h3 : d <;> simp [bi_t, bi_f, h, h1, h2, h3] <;> decide
section LG
variable {E : zE} {N : iN} {s : cT} {g : zH}
theorem w_nA1 (hr : rm g 1 1) {γ : Type} {F : Nat → zH → Option γ} {Q : γ → Prop} : Ww (bnd2 (nA g 3 (1 : Int32) (.inl fun _ => 0)) F) Q ↔ Ww (F g.2.1 (gt g 1 fun _ => 0)) Q := by rw [x_nA1 hr]; exact Iff.rfl
theorem x_isFr (hn : N.2.1 < 2 ^ 31) (f : Int32) : c_X1_isFranchisee E N f s g = some (bi (inF f N.2.1), (s, g)) := by
  unfold c_X1_isFranchisee c_X1_isFranchisee_b0
  rw [bi_of (inF_iff f hn), zgd_bi]
  rfl
theorem x_isPl (hn : N.2.2.2.1 < 2 ^ 31) (f : Int32) : c_X1_isPlan E N f s g = some (bi (inF f N.2.2.2.1), (s, g)) := by
  unfold c_X1_isPlan c_X1_isPlan_b0
  rw [bi_of (inF_iff f hn), zgd_bi]
  rfl
theorem x_isCl {mo : Nat} (hm : s.2.1 (N.1 + 10) 5 = Int32.ofNat mo) (hn : mo < 2 ^ 31) (f : Int32) : c_X1_isClosed E N f s g = some (bi (inF f mo), (s, g)) := by
  unfold c_X1_isClosed c_X1_isClosed_b0
  rw [hm, bi_of (inF_iff f hn), zgd_bi]
  rfl
theorem x_isAm (x : Int64) : c_X1_isAmount E N x s g = some (bi ((1 : Int64) ≤ x ∧ x ≤ 1000000000), (s, g)) := by
  unfold c_X1_isAmount c_X1_isAmount_b0
  rw [bi_if, zgd_bi]
  rfl
theorem x_isP (x y : Int32) : c_X1_isPlace E N x y s g = some (bi (isP x y), (s, g)) := by
  unfold c_X1_isPlace c_X1_isPlace_b0 c_X1_isPlace_b28 c_X1_isPlace_b29
  rw [bi_of inF_30, bi_of inF_30]
  by_cases h1 : inF x 30
  · by_cases h2 : inF y 30
    · rw [bi_t h1, bi_t h2, bi_t ⟨h1, h2⟩, if_neg (by decide), if_neg (by decide), zgd1]; rfl
    · rw [bi_t h1, bi_f h2, bi_f (p := isP x y) (fun h => h2 h.2), if_neg (by decide), if_pos rfl, zgd0]; rfl
  · rw [bi_f h1, bi_f (p := isP x y) (fun h => h1 h.1), if_pos rfl, zgd0]; rfl
theorem x_isAc (i : Nat) : c_X11_isActive E N i s g = some (bi (s.2.1 (N.1 + 130 + i) 5 = 0), (s, g)) := by
  unfold c_X11_isActive c_X11_isActive_b0
  by_cases h : s.2.1 (N.1 + 130 + i) 5 = 0
  · rw [bi_t h, if_pos h]; rfl
  · rw [bi_f h, if_neg h]; rfl
theorem x_isOp (k : Nat) : c_X14_isOpen E N k s g = some (bi (¬ s.2.1 (N.1 + 170 + k) 1 = -1), (s, g)) := by
  unfold c_X14_isOpen c_X14_isOpen_b0
  by_cases h : s.2.1 (N.1 + 170 + k) 1 = -1
  · rw [bi_f (fun n => n h), if_pos h]; rfl
  · rw [bi_t h, if_neg h]; rfl
theorem x_isOT (i : Nat) : c_X12_isOpen E N i s g = some (bi (s.2.1 (N.1 + 140 + i) 0 = 1 ∨ s.2.1 (N.1 + 140 + i) 0 = 2), (s, g)) := by
  unfold c_X12_isOpen c_X12_isOpen_b0 c_X12_isOpen_b16
  by_cases h : s.2.1 (N.1 + 140 + i) 0 = 1
  · rw [bi_t (Or.inl h), if_pos h]; rfl
  · by_cases h2 : s.2.1 (N.1 + 140 + i) 0 = 2
    · rw [bi_t (Or.inr h2), if_neg h, if_pos h2]; rfl
    · rw [bi_f (fun q => q.elim h h2), if_neg h, if_neg h2]; rfl
theorem x_col {a : Nat} (ha : a < 2 ^ 31) : c_X1_column E N (Int32.ofNat a) s g = some (Int32.ofNat (a % 30), (s, g)) := by
  unfold c_X1_column c_X1_column_b0
  rw [i32_mod30 ha]
theorem x_row {a : Nat} (ha : a < 2 ^ 31) : c_X1_row E N (Int32.ofNat a) s g = some (Int32.ofNat (a / 30), (s, g)) := by
  unfold c_X1_row c_X1_row_b0
  rw [i32_div30 ha]
theorem x_cell (x y : Nat) : c_X1_cell E N (Int32.ofNat x) (Int32.ofNat y) s g = some (Int32.ofNat (30 * y + x), (s, g)) := by
  show some (Int32.ofNat 30 * Int32.ofNat y + Int32.ofNat x, (s, g)) = _
  rw [← Int32.ofNat_mul, ← Int32.ofNat_add]
theorem x_rated (c : Nat) (a : Int64) : c_X16_of E N c a s g = some ((a * (s.2.1 c 0).toInt64 + 5000) / 10000, (s, g)) := rfl
theorem x_told {a : Nat} (ha : a < 2 ^ 31) : c_X1_told E N (Int32.ofNat a) s g = some (Int32.ofNat (100 * (a / 30) + a % 30), (s, g)) := by
  unfold c_X1_told c_X1_told_b0
  rw [x_row ha, b2_some]
  show bnd2 (c_X1_column E N (Int32.ofNat a) s g) _ = _
  rw [x_col ha, b2_some]
  show some (Int32.ofNat 100 * Int32.ofNat (a / 30) + Int32.ofNat (a % 30), (s, g)) = _
  rw [← Int32.ofNat_mul, ← Int32.ofNat_add]
theorem x_fr_t (hE : 1000 ≤ E.1) (hN : N.2.1 < 1000) (hr : rm g 2 7) {i : Nat} (hi : i < N.2.1) : c_X1_franchisee E N (Int32.ofNat i) s g = some (.inl i, (s, gt g 1 (va_up (fun _ => 0) 0 1))) := by
  unfold c_X1_franchisee c_X1_franchisee_b0
  rw [x_nA1 (rm_le hr (by decide) (by decide)), b2_some, x_isFr (by omega), b2_some, bi_t (inF_of hi (by omega)), zgd1, b1_some, x_sI10, b1_some, x_rI hE (by decide) (rm_gt (rm_le hr (by decide) (by decide))), b2_some, if_pos (by decide)]
  show (cGet N.2.1 (Int32.ofNat i)).bind _ = _
  rw [cGet_of hi (by omega)]
  rfl
theorem x_fr_f (hE : 1000 ≤ E.1) (hN : N.2.1 < 1000) (hr : rm g 2 7) {f : Int32} (hf : ¬ inF f N.2.1) : c_X1_franchisee E N f s g = some (.inr (20, g.2.1 + 1), (s, ge (gt g 1 (va_up (fun _ => 0) 0 0)) 20)) := by
  unfold c_X1_franchisee c_X1_franchisee_b0
  rw [x_nA1 (rm_le hr (by decide) (by decide)), b2_some, x_isFr (by omega), b2_some, bi_f hf, zgd0, b1_some, x_sI10, b1_some, x_rI hE (by decide) (rm_gt (rm_le hr (by decide) (by decide))), b2_some, if_neg (by decide)]
  rfl
theorem w_fr (hE : 1000 ≤ E.1) (hN : N.2.1 < 1000) (hr : rm g 2 7) {f : Int32} {Q : (Nat ⊕ (Nat × Nat)) × (cT × zH) → Prop} : Ww (c_X1_franchisee E N f s g) Q ↔ (∀ i, f = Int32.ofNat i → i < N.2.1 → Q (.inl i, (s, gt g 1 (va_up (fun _ => 0) 0 1)))) ∧ (¬ inF f N.2.1 → Q (.inr (20, g.2.1 + 1), (s, ge (gt g 1 (va_up (fun _ => 0) 0 0)) 20))) := by
  by_cases h : inF f N.2.1
  · obtain ⟨e, hi⟩ := inF_nat h
    rw [e, x_fr_t hE hN hr hi, w_some]
    refine ⟨fun q => ⟨fun j ej _ => ?_, fun n => absurd ((inF_n (by omega)).mpr hi) n⟩, fun q => q.1 _ rfl hi⟩
    rw [← (i32_eq (by omega) (by omega)).mp ej]
    exact q
  · rw [x_fr_f hE hN hr h, w_some]
    refine ⟨fun q => ⟨fun j ej hj => absurd (by rw [ej]; exact (inF_n (by omega)).mpr hj) h, fun _ => q⟩, fun q => q.2 h⟩
theorem x_ou_t (hE : 1000 ≤ E.1) (hN : N.2.2.1 < 1000) (hr : rm g 2 7) {i : Nat} (hi : i < N.2.2.1) : c_X1_outlet E N (Int32.ofNat i) s g = some (.inl i, (s, gt g 1 (va_up (fun _ => 0) 0 1))) := by
  unfold c_X1_outlet c_X1_outlet_b0
  rw [x_nA1 (rm_le hr (by decide) (by decide)), b2_some, bi_of (inF_iff _ (by omega)), bi_t (inF_of hi (by omega)), zgd1, b1_some, x_sI10, b1_some, x_rI hE (by decide) (rm_gt (rm_le hr (by decide) (by decide))), b2_some, if_pos (by decide)]
  show (cGet N.2.2.1 (Int32.ofNat i)).bind _ = _
  rw [cGet_of hi (by omega)]
  rfl
theorem x_ou_f (hE : 1000 ≤ E.1) (hN : N.2.2.1 < 1000) (hr : rm g 2 7) {f : Int32} (hf : ¬ inF f N.2.2.1) : c_X1_outlet E N f s g = some (.inr (20, g.2.1 + 1), (s, ge (gt g 1 (va_up (fun _ => 0) 0 0)) 20)) := by
  unfold c_X1_outlet c_X1_outlet_b0
  rw [x_nA1 (rm_le hr (by decide) (by decide)), b2_some, bi_of (inF_iff _ (by omega)), bi_f hf, zgd0, b1_some, x_sI10, b1_some, x_rI hE (by decide) (rm_gt (rm_le hr (by decide) (by decide))), b2_some, if_neg (by decide)]
  rfl
theorem w_ou (hE : 1000 ≤ E.1) (hN : N.2.2.1 < 1000) (hr : rm g 2 7) {f : Int32} {Q : (Nat ⊕ (Nat × Nat)) × (cT × zH) → Prop} : Ww (c_X1_outlet E N f s g) Q ↔ (∀ i, f = Int32.ofNat i → i < N.2.2.1 → Q (.inl i, (s, gt g 1 (va_up (fun _ => 0) 0 1)))) ∧ (¬ inF f N.2.2.1 → Q (.inr (20, g.2.1 + 1), (s, ge (gt g 1 (va_up (fun _ => 0) 0 0)) 20))) := by
  by_cases h : inF f N.2.2.1
  · obtain ⟨e, hi⟩ := inF_nat h
    rw [e, x_ou_t hE hN hr hi, w_some]
    refine ⟨fun q => ⟨fun j ej _ => ?_, fun n => absurd ((inF_n (by omega)).mpr hi) n⟩, fun q => q.1 _ rfl hi⟩
    rw [← (i32_eq (by omega) (by omega)).mp ej]
    exact q
  · rw [x_ou_f hE hN hr h, w_some]
    refine ⟨fun q => ⟨fun j ej hj => absurd (by rw [ej]; exact (inF_n (by omega)).mpr hj) h, fun _ => q⟩, fun q => q.2 h⟩
theorem w_rMo (hr : rm g 1 6) {mo : Nat} (hm : s.2.1 (N.1 + 10) 5 = Int32.ofNat mo) (hn : mo < 1000) {Q : (Unit ⊕ (Nat × Nat)) × (cT × zH) → Prop} : Ww (c_X1_requireMonth E N s g) Q ↔ (¬ mo = 60 → Q (.inl (), (s, g))) ∧ (mo = 60 → Q (.inr (22, g.2.1), (s, ge g 22))) := by
  unfold c_X1_requireMonth c_X1_requireMonth_b0
  rw [hm]
  by_cases h : mo = 60
  · rw [if_pos (by rw [h]; rfl), x_nO hr, b2_some]
    show Ww ((ckt (ge g 22) g.2.1 22).bind _) Q ↔ _
    rw [x_ckt, b1_some, w_some]
    exact ⟨fun q => ⟨fun n => absurd h n, fun _ => q⟩, fun q => q.2 h⟩
  · rw [if_neg (show ¬ Int32.ofNat mo = (60 : Int32) from fun e => h ((i32_eq (b := 60) (by omega) (by decide)).mp e)), w_some]
    exact ⟨fun q => ⟨fun _ => q, fun n => absurd n h⟩, fun q => q.1 h⟩
end LG
section LT
variable {E : zE} {t : twS}
theorem w_thr {p : Prop} {k : Int32} {Q : Int32 × twS → Prop} : Ww (t_X6_throwsIf E (bi p) k t) Q ↔ (p → Q (1, uSc t 2 k)) ∧ (¬ p → Q (0, t)) := by
  by_cases h : p
  · rw [bi_t h, y_thr1, w_some]; exact ⟨fun q => ⟨fun _ => q, fun n => absurd h n⟩, fun q => q.1 h⟩
  · rw [bi_f h, y_thr0, w_some]; exact ⟨fun q => ⟨fun n => absurd n h, fun _ => q⟩, fun q => q.2 h⟩
theorem w_thr0 {k : Int32} {Q : Int32 × twS → Prop} : Ww (t_X6_throwsIf E 0 k t) Q ↔ Q (0, t) := w_some
theorem w_thr1 {k : Int32} {Q : Int32 × twS → Prop} : Ww (t_X6_throwsIf E 1 k t) Q ↔ Q (1, uSc t 2 k) := w_some
end LT
