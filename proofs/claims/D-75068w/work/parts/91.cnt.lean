/-! counts of cells -/
set_option maxRecDepth 100000
noncomputable def cnt (P : Nat → Prop) : Nat → Nat
  | 0 => 0
  | j + 1 => cnt P j + @ite _ (P j) (Classical.propDecidable _) 1 0
theorem cnt_y {P : Nat → Prop} {j : Nat} (h : P j) : cnt P (j + 1) = cnt P j + 1 := by
  show cnt P j + @ite _ (P j) (Classical.propDecidable _) 1 0 = _
  rw [if_pos h]
theorem cnt_n {P : Nat → Prop} {j : Nat} (h : ¬ P j) : cnt P (j + 1) = cnt P j := by
  show cnt P j + @ite _ (P j) (Classical.propDecidable _) 1 0 = _
  rw [if_neg h]; rfl
theorem cnt_le (P : Nat → Prop) : ∀ n, cnt P n ≤ n
  | 0 => Nat.le_refl _
  | n + 1 => by
    have := cnt_le P n
    by_cases h : P n
    · rw [cnt_y h]; omega
    · rw [cnt_n h]; omega
theorem cnt_cg {P Q : Nat → Prop} : ∀ {n : Nat}, (∀ i, i < n → (P i ↔ Q i)) → cnt P n = cnt Q n := by
  intro n
  induction n with
  | zero => intro _; rfl
  | succ n ih =>
    intro h
    have e := ih (fun i hi => h i (by omega))
    by_cases q : P n
    · rw [cnt_y q, cnt_y ((h n (by omega)).mp q), e]
    · rw [cnt_n q, cnt_n (fun k => q ((h n (by omega)).mpr k)), e]
/-- one more -/
theorem cnt_add {P Q : Nat → Prop} {x : Nat} (hx : ¬ P x) (hq : ∀ i, Q i ↔ P i ∨ i = x) : ∀ {n : Nat}, x < n → cnt Q n = cnt P n + 1 := by
  intro n
  induction n with
  | zero => intro h; omega
  | succ n ih =>
    intro h
    by_cases e : x = n
    · subst e
      rw [cnt_y ((hq x).mpr (Or.inr rfl)), cnt_n hx]
      congr 1
      exact cnt_cg fun i hi => ⟨fun k => ((hq i).mp k).elim id (fun e => by omega), fun k => (hq i).mpr (Or.inl k)⟩
    · have i1 := ih (by omega)
      by_cases q : P n
      · rw [cnt_y q, cnt_y ((hq n).mpr (Or.inl q)), i1]
      · rw [cnt_n q, cnt_n (fun k => ((hq n).mp k).elim q (fun e1 => e e1.symm)), i1]
theorem cnt_lt {P : Nat → Prop} {x n : Nat} (hx : ¬ P x) (h : x < n) : cnt P n < n := by
  have h1 := cnt_add (P := P) (Q := fun i => P i ∨ i = x) hx (fun _ => Iff.rfl) h
  have h2 := cnt_le (fun i => P i ∨ i = x) n
  omega
theorem cnt_one {x n : Nat} (h : x < n) : cnt (fun i => i = x) n = 1 := by
  have e0 : ∀ n, cnt (fun _ => False) n = 0 := fun n => by
    induction n with
    | zero => rfl
    | succ n ih => rw [cnt_n (fun k => k), ih]
  rw [cnt_add (P := fun _ => False) (x := x) (fun k => k) (fun i => ⟨Or.inr, fun k => k.elim False.elim id⟩) h, e0]
theorem sm_bi (P : Nat → Prop) : ∀ n, sm (fun c => bi (P c)) n = Int32.ofNat (cnt P n)
  | 0 => rfl
  | n + 1 => by
    show sm (fun c => bi (P c)) n + bi (P n) = _
    rw [sm_bi P n]
    by_cases h : P n
    · rw [bi_t h, cnt_y h]; exact i32_s _
    · rw [bi_f h, cnt_n h]; exact Int32.add_zero _
