/-! what a run gives (Ww); numbers; small methods of the component on tables -/
set_option maxRecDepth 100000
def Ww {α : Type} (m : Option α) (Q : α → Prop) : Prop := ∃ x, m = some x ∧ Q x
theorem w_some {α : Type} {x : α} {Q : α → Prop} : Ww (some x) Q ↔ Q x := ⟨fun h => by obtain ⟨y, e, q⟩ := h; cases e; exact q, fun q => ⟨x, rfl, q⟩⟩
theorem w_bnd2 {α β γ : Type} {m : Option (α × β)} {F : α → β → Option γ} {Q : γ → Prop} : Ww (bnd2 m F) Q ↔ Ww m fun z => Ww (F z.1 z.2) Q := by
  cases m with
  | none => exact ⟨fun h => (by obtain ⟨y, e, q⟩ := h; cases e), fun h => (by obtain ⟨y, e, q⟩ := h; cases e)⟩
  | some x => exact ⟨fun h => ⟨x, rfl, h⟩, fun h => by obtain ⟨y, e, q⟩ := h; cases e; exact q⟩
theorem w_bind {α γ : Type} {m : Option α} {F : α → Option γ} {Q : γ → Prop} : Ww (m.bind F) Q ↔ Ww m fun z => Ww (F z) Q := by
  cases m with
  | none => exact ⟨fun h => (by obtain ⟨y, e, q⟩ := h; cases e), fun h => (by obtain ⟨y, e, q⟩ := h; cases e)⟩
  | some x => exact ⟨fun h => ⟨x, rfl, h⟩, fun h => by obtain ⟨y, e, q⟩ := h; cases e; exact q⟩
theorem w_ite {α : Type} {c : Prop} {d : Decidable c} {A B : Option α} {Q : α → Prop} : Ww (if c then A else B) Q ↔ (c → Ww A Q) ∧ (¬ c → Ww B Q) := by
  by_cases h : c
  · rw [if_pos h]; exact ⟨fun q => ⟨fun _ => q, fun n => absurd h n⟩, fun q => q.1 h⟩
  · rw [if_neg h]; exact ⟨fun q => ⟨fun n => absurd n h, fun _ => q⟩, fun q => q.2 h⟩
theorem w_mono {α : Type} {m : Option α} {Q Q1 : α → Prop} (h : Ww m Q) (k : ∀ x, Q x → Q1 x) : Ww m Q1 := by
  obtain ⟨x, e, q⟩ := h
  exact ⟨x, e, k x q⟩
theorem w_of {α : Type} {m : Option α} {x : α} {Q : α → Prop} (h : m = some x) (q : Q x) : Ww m Q := ⟨x, h, q⟩
theorem el_l {α β γ : Type} (F : α → γ) (G : β → γ) (x : α) : Sum.elim F G (.inl x) = F x := rfl
theorem el_r {α β γ : Type} (F : α → γ) (G : β → γ) (x : β) : Sum.elim F G (.inr x) = G x := rfl
theorem if01 {c : Prop} {d : Decidable c} : ((if c then (1 : Int32) else 0) = 0) ↔ ¬ c := by
  by_cases h : c
  · rw [if_pos h]; exact ⟨fun q => absurd q (by decide), fun q => absurd h q⟩
  · rw [if_neg h]; exact ⟨fun _ => h, fun _ => rfl⟩
theorem b2_some {α β γ : Type} (a : α) (b : β) (F : α → β → Option γ) : bnd2 (some (a, b)) F = F a b := rfl
theorem b1_some {α γ : Type} (x : α) (F : α → Option γ) : (some x).bind F = F x := rfl
/-! numbers -/
theorem i32_le {a b : Nat} (ha : a < 2 ^ 31) (hb : b < 2 ^ 31) : Int32.ofNat a ≤ Int32.ofNat b ↔ a ≤ b := by
  rw [Int32.le_iff_toInt_le, Int32.toInt_ofNat_of_lt ha, Int32.toInt_ofNat_of_lt hb]
  exact Int.ofNat_le
theorem i32_eq {a b : Nat} (ha : a < 2 ^ 31) (hb : b < 2 ^ 31) : Int32.ofNat a = Int32.ofNat b ↔ a = b := by
  rw [← Int32.toInt_inj, Int32.toInt_ofNat_of_lt ha, Int32.toInt_ofNat_of_lt hb]
  exact Int.ofNat_inj
theorem i32_s (a : Nat) : Int32.ofNat a + 1 = Int32.ofNat (a + 1) := (Int32.ofNat_add a 1).symm
theorem i64_s (a : Nat) : Int64.ofNat a + 1 = Int64.ofNat (a + 1) := (Int64.ofNat_add a 1).symm
theorem i64_le {a b : Nat} (ha : a < 2 ^ 63) (hb : b < 2 ^ 63) : Int64.ofNat a ≤ Int64.ofNat b ↔ a ≤ b := by
  rw [Int64.le_iff_toInt_le, Int64.toInt_ofNat_of_lt ha, Int64.toInt_ofNat_of_lt hb]
  exact Int.ofNat_le
theorem i64_lt {a b : Nat} (ha : a < 2 ^ 63) (hb : b < 2 ^ 63) : Int64.ofNat a < Int64.ofNat b ↔ a < b := by
  rw [Int64.lt_iff_toInt_lt, Int64.toInt_ofNat_of_lt ha, Int64.toInt_ofNat_of_lt hb]
  exact Int.ofNat_lt
theorem i64_eq {a b : Nat} (ha : a < 2 ^ 63) (hb : b < 2 ^ 63) : Int64.ofNat a = Int64.ofNat b ↔ a = b := by
  rw [← Int64.toInt_inj, Int64.toInt_ofNat_of_lt ha, Int64.toInt_ofNat_of_lt hb]
  exact Int.ofNat_inj
theorem i32_64 {a : Nat} (ha : a < 2 ^ 31) : (Int32.ofNat a).toInt64 = Int64.ofNat a := by
  rw [← Int64.toInt_inj, Int32.toInt_toInt64, Int32.toInt_ofNat_of_lt ha, Int64.toInt_ofNat_of_lt (by omega)]
theorem i64_32 (a : Nat) : (Int64.ofNat a).toInt32 = Int32.ofNat a := by
  rw [Int64.toInt32_ofNat']
theorem i32_64_32 (x : Int32) : x.toInt64.toInt32 = x := Int32.toInt32_toInt64 x
theorem i32_64_inj {x y : Int32} : x.toInt64 = y.toInt64 ↔ x = y := by
  rw [← Int64.toInt_inj, Int32.toInt_toInt64, Int32.toInt_toInt64, Int32.toInt_inj]
theorem i64_clamp {n : Nat} (h : n < 2 ^ 63) : (Int64.ofNat n).toNatClampNeg = n := by
  show (Int64.ofNat n).toInt.toNat = n
  rw [Int64.toInt_ofNat_of_lt h]
  rfl
theorem i32_toInt {a : Nat} (ha : a < 2 ^ 31) : (Int32.ofNat a).toInt = a := Int32.toInt_ofNat_of_lt ha
theorem i32_sub {a b : Nat} (hb : b ≤ a) (ha : a < 2 ^ 31) : Int32.ofNat a - Int32.ofNat b = Int32.ofNat (a - b) := by
  rw [← Int32.toInt_inj, Int32.toInt_sub, i32_toInt ha, i32_toInt (by omega), i32_toInt (by omega)]
  rw [Int.bmod_eq_of_le (by omega) (by omega)]
  omega
theorem i32_div {a b : Nat} (ha : a < 2 ^ 31) (hb : b < 2 ^ 31) : Int32.ofNat a / Int32.ofNat b = Int32.ofNat (a / b) := by
  have h : a / b ≤ a := Nat.div_le_self a b
  have e : ((a : Int).tdiv (b : Int)) = ((a / b : Nat) : Int) := by
    rw [Int.tdiv_eq_ediv_of_nonneg (by omega)]
    rfl
  rw [← Int32.toInt_inj, Int32.toInt_div, i32_toInt ha, i32_toInt hb, e]
  generalize a / b = q at h
  rw [i32_toInt (by omega), Int.bmod_eq_of_le (by omega) (by omega)]
theorem i32_mod30 {a : Nat} (ha : a < 2 ^ 31) : Int32.ofNat a - Int32.ofNat a / (30 : Int32) * (30 : Int32) = Int32.ofNat (a % 30) := by
  show Int32.ofNat a - Int32.ofNat a / Int32.ofNat 30 * Int32.ofNat 30 = _
  rw [i32_div ha (by decide), ← Int32.ofNat_mul, i32_sub (by omega) ha]
  congr 1
  omega
theorem i32_div30 {a : Nat} (ha : a < 2 ^ 31) : Int32.ofNat a / (30 : Int32) = Int32.ofNat (a / 30) := i32_div ha (by decide)
theorem i32_neg1 {a : Nat} (ha : a < 2 ^ 31) : Int32.ofNat a ≠ (-1 : Int32) := by
  intro h
  have := congrArg Int32.toInt h
  rw [i32_toInt ha] at this
  have e : (-1 : Int32).toInt = -1 := by decide
  rw [e] at this
  omega
/-- what lies in 0 .. n - 1 -/
theorem inF_dec (f : Int32) (n : Nat) : inF f n ∨ ¬ inF f n := by unfold inF; omega
theorem inF_nat {f : Int32} {n : Nat} (h : inF f n) : f = Int32.ofNat f.toNatClampNeg ∧ f.toNatClampNeg < n := by
  have h3 : f.toInt < 2 ^ 31 := Int32.toInt_lt f
  have e : f.toNatClampNeg = f.toInt.toNat := rfl
  have := h.1
  have := h.2
  refine ⟨?_, by omega⟩
  apply Int32.toInt_inj.mp
  rw [e, Int32.toInt_ofNat_of_lt (by omega)]
  omega
theorem cGet_of {n i : Nat} (hi : i < n) (hn : n < 2 ^ 31) : cGet n (Int32.ofNat i) = some i := by
  unfold cGet
  rw [nat_clamp (by omega), if_pos (fun h => h.elim (i32_nneg (by omega)) (by omega))]
theorem cdI_of {s : cT} {c n j : Nat} (hj : j < n) (hn : n < 2 ^ 31) : cdI s c n (Int32.ofNat j) = some (s.2.1 c j) := by
  unfold cdI
  rw [nat_clamp (by omega), if_pos (fun h => h.elim (i32_nneg (by omega)) (by omega))]
theorem cdL_of {s : cT} {c n j : Nat} (hj : j < n) (hn : n < 2 ^ 31) : cdL s c n (Int32.ofNat j) = some (s.2.2.1 c j) := by
  unfold cdL
  rw [nat_clamp (by omega), if_pos (fun h => h.elim (i32_nneg (by omega)) (by omega))]
theorem csI_of {s : cT} {c n j : Nat} {v : Int32} (hj : j < n) (hn : n < 2 ^ 31) : csI s c n (Int32.ofNat j) v = some (uI s c j v) := by
  unfold csI
  rw [nat_clamp (by omega), if_pos (fun h => h.elim (i32_nneg (by omega)) (by omega))]
theorem csL_of {s : cT} {c n j : Nat} {v : Int64} (hj : j < n) (hn : n < 2 ^ 31) : csL s c n (Int32.ofNat j) v = some (uL s c j v) := by
  unfold csL
  rw [nat_clamp (by omega), if_pos (fun h => h.elim (i32_nneg (by omega)) (by omega))]
theorem uL_s (s : cT) (c k : Nat) (v : Int64) : (uL s c k v).2.2.1 c k = v := by
  show va_up s.2.2.1 c (va_up (s.2.2.1 c) k v) c k = v
  rw [cu_same, cu_same]
theorem uI_s (s : cT) (c k : Nat) (v : Int32) : (uI s c k v).2.1 c k = v := by
  show va_up s.2.1 c (va_up (s.2.1 c) k v) c k = v
  rw [cu_same, cu_same]
theorem uL_ne (s : cT) {c k c1 k1 : Nat} (v : Int64) (h : c1 ≠ c ∨ k1 ≠ k) : (uL s c k v).2.2.1 c1 k1 = s.2.2.1 c1 k1 := by
  show va_up s.2.2.1 c (va_up (s.2.2.1 c) k v) c1 k1 = _
  by_cases e : c1 = c
  · subst e
    rw [cu_same, cu_ne _ _ (h.resolve_left (fun n => n rfl))]
  · rw [cu_ne _ _ e]
theorem uI_ne (s : cT) {c k c1 k1 : Nat} (v : Int32) (h : c1 ≠ c ∨ k1 ≠ k) : (uI s c k v).2.1 c1 k1 = s.2.1 c1 k1 := by
  show va_up s.2.1 c (va_up (s.2.1 c) k v) c1 k1 = _
  by_cases e : c1 = c
  · subst e
    rw [cu_same, cu_ne _ _ (h.resolve_left (fun n => n rfl))]
  · rw [cu_ne _ _ e]
theorem uL_I (s : cT) (c k : Nat) (v : Int64) : (uL s c k v).2.1 = s.2.1 := rfl
theorem uI_L (s : cT) (c k : Nat) (v : Int32) : (uI s c k v).2.2.1 = s.2.2.1 := rfl
theorem uL_R (s : cT) (c k : Nat) (v : Int64) : (uL s c k v).2.2.2 = s.2.2.2 := rfl
theorem uI_R (s : cT) (c k : Nat) (v : Int32) : (uI s c k v).2.2.2 = s.2.2.2 := rfl
theorem uL_S (s : cT) (c k : Nat) (v : Int64) : (uL s c k v).1 = s.1 := rfl
theorem uI_S (s : cT) (c k : Nat) (v : Int32) : (uI s c k v).1 = s.1 := rfl
/-! room -/
theorem rm_le {g : zH} {K M k m : Nat} (h : rm g K M) (hk : k ≤ K) (hm : m ≤ M) : rm g k m := ⟨Nat.le_trans hk h.1, Nat.le_trans hm h.2⟩
theorem rm_gt {g : zH} {k m n : Nat} {f : Nat → Int32} (h : rm g (k + 1) (m + n)) : rm (gt g n f) k m := ⟨by have := h.1; show k ≤ g.2.2.1 - 1; omega, by have := h.2; show m ≤ g.2.2.2 - n; omega⟩
theorem rm_ge {g : zH} {k m ci : Nat} (h : rm g (k + 1) (m + 6)) : rm (ge g ci) k m := ⟨by have := h.1; show k ≤ g.2.2.1 - 1; omega, by have := h.2; show m ≤ g.2.2.2 - 6; omega⟩
theorem gx_gt1 {g0 g : zH} {k m n : Nat} {f : Nat → Int32} (h : gx g0 g k m) : gx g0 (gt g n f) (k + 1) (m + n) := gx_trans h (gx_gt g n f)
theorem gx_ge1 {g0 g : zH} {k m ci : Nat} (h : gx g0 g k m) : gx g0 (ge g ci) (k + 1) (m + 6) := gx_trans h (gx_ge g ci)
section LF
variable {E : zE} {N : iN} {s : cT} {g : zH}
theorem x_nA {n : Nat} (hr : rm g 1 n) (hn : n < 100) {x : Int32} (hx : x = Int32.ofNat n) : nA g 3 x (.inl fun _ => 0) = some (g.2.1, gt g n fun _ => 0) := by
  subst hx
  unfold nA
  rw [nat_clamp (by omega), if_pos ⟨i32_nneg (by omega), by omega, hr.1, hr.2⟩]
  rfl
theorem x_nA1 (hr : rm g 1 1) : nA g 3 (1 : Int32) (.inl fun _ => 0) = some (g.2.1, gt g 1 fun _ => 0) := x_nA hr (by decide) rfl
theorem x_nA2 (hr : rm g 1 2) : nA g 3 (2 : Int32) (.inl fun _ => 0) = some (g.2.1, gt g 2 fun _ => 0) := x_nA hr (by decide) rfl
theorem x_nA4 (hr : rm g 1 4) : nA g 3 (4 : Int32) (.inl fun _ => 0) = some (g.2.1, gt g 4 fun _ => 0) := x_nA hr (by decide) rfl
theorem x_sI {n : Nat} {f : Nat → Int32} {j : Nat} (hj : j < n) (hn : n < 100) {v x : Int32} (hx : x = Int32.ofNat j) : sI (gt g n f) g.2.1 3 x v = some (gt g n (va_up f j v)) := by
  subst hx
  unfold sI
  rw [gt_at]
  show (if 3 = 3 ∧ ¬ (Int32.ofNat j < 0 ∨ n ≤ (Int32.ofNat j).toNatClampNeg) then some (zup (gt g n f) g.2.1 (true, .inl (3, n, .inl (va_up f (Int32.ofNat j).toNatClampNeg v)))) else none : Option zH) = _
  rw [nat_clamp (by omega), if_pos ⟨rfl, fun h => h.elim (i32_nneg (by omega)) (by omega)⟩, gt_set]
theorem x_sI10 {f : Nat → Int32} {v : Int32} : sI (gt g 1 f) g.2.1 3 (0 : Int32) v = some (gt g 1 (va_up f 0 v)) := x_sI (j := 0) (by decide) (by decide) rfl
theorem x_sI20 {f : Nat → Int32} {v : Int32} : sI (gt g 2 f) g.2.1 3 (0 : Int32) v = some (gt g 2 (va_up f 0 v)) := x_sI (j := 0) (by decide) (by decide) rfl
theorem x_sI21 {f : Nat → Int32} {v : Int32} : sI (gt g 2 f) g.2.1 3 (1 : Int32) v = some (gt g 2 (va_up f 1 v)) := x_sI (j := 1) (by decide) (by decide) rfl
theorem x_sI40 {f : Nat → Int32} {v : Int32} : sI (gt g 4 f) g.2.1 3 (0 : Int32) v = some (gt g 4 (va_up f 0 v)) := x_sI (j := 0) (by decide) (by decide) rfl
theorem x_sI41 {f : Nat → Int32} {v : Int32} : sI (gt g 4 f) g.2.1 3 (1 : Int32) v = some (gt g 4 (va_up f 1 v)) := x_sI (j := 1) (by decide) (by decide) rfl
theorem x_sI42 {f : Nat → Int32} {v : Int32} : sI (gt g 4 f) g.2.1 3 (2 : Int32) v = some (gt g 4 (va_up f 2 v)) := x_sI (j := 2) (by decide) (by decide) rfl
theorem x_sI43 {f : Nat → Int32} {v : Int32} : sI (gt g 4 f) g.2.1 3 (3 : Int32) v = some (gt g 4 (va_up f 3 v)) := x_sI (j := 3) (by decide) (by decide) rfl
theorem x_nO (hr : rm g 1 6) (ci : Nat) : nO g ci 6 [] = some (g.2.1, ge g ci) := by
  unfold nO
  rw [if_pos ⟨hr.1, hr.2⟩]
  rfl
theorem x_ckt (ci : Nat) : ckt (ge g ci) g.2.1 ci = some () := by
  unfold ckt
  rw [ge_at]
  exact if_pos rfl
theorem x_dI {n : Nat} {f : Nat → Int32} {j : Nat} (hj : j < n) (hn : n < 100) : dI (gt g n f) g.2.1 3 (Int32.ofNat j) = some (f j) := by
  unfold dI
  rw [gt_at]
  show (if 3 = 3 ∧ ¬ (Int32.ofNat j < 0 ∨ n ≤ (Int32.ofNat j).toNatClampNeg) then some (f (Int32.ofNat j).toNatClampNeg) else none) = _
  rw [nat_clamp (by omega), if_pos ⟨rfl, fun h => h.elim (i32_nneg (by omega)) (by omega)⟩]
theorem x_len {n : Nat} {f : Nat → Int32} : lenA (gt g n f) g.2.1 = some (Int32.ofNat n) := by
  unfold lenA
  rw [gt_at]
theorem x_rI_l {n : Nat} {f : Nat → Int32} (hn : n < 100) (hr : rm (gt g n f) 1 6) : ∀ (k j : Nat), j + k = n → ∀ m, k < m → c_X1_requireIndex_l7 E N m g.2.1 (Int32.ofNat n) (Int32.ofNat j) s (gt g n f) = some (if gall f j k = true then (.inl (), (s, gt g n f)) else (.inr (20, g.2.1 + 1), (s, ge (gt g n f) 20))) := by
  intro k
  induction k with
  | zero =>
    intro j hj m hm
    obtain ⟨m, rfl⟩ : ∃ m1, m = m1 + 1 := ⟨m - 1, by omega⟩
    unfold c_X1_requireIndex_l7
    rw [if_pos (by rw [show j = n by omega]; exact Int32.le_refl _)]
    rfl
  | succ k ih =>
    intro j hj m hm
    obtain ⟨m, rfl⟩ : ∃ m1, m = m1 + 1 := ⟨m - 1, by omega⟩
    have hj2 : j < 2 ^ 31 := by omega
    unfold c_X1_requireIndex_l7 gall
    rw [if_neg (by rw [Int32.not_le]; exact (i32_lt hj2 (by omega)).mpr (by omega)), x_dI (by omega) hn, b1_some]
    by_cases hz : f j = 0
    · rw [if_pos hz, if_pos hz, x_nO hr, b2_some]
      show ((ckt (ge (gt g n f) 20) (gt g n f).2.1 20).bind _) = _
      rw [x_ckt]
      rfl
    · rw [if_neg hz, if_neg hz, i32_s]
      exact ih (j + 1) (by omega) m (by omega)
theorem x_rI (hE : 1000 ≤ E.1) {n : Nat} {f : Nat → Int32} (hn : n < 100) (hr : rm (gt g n f) 1 6) : c_X1_requireIndex E N g.2.1 s (gt g n f) = some (if gall f 0 n = true then (.inl (), (s, gt g n f)) else (.inr (20, g.2.1 + 1), (s, ge (gt g n f) 20))) := by
  unfold c_X1_requireIndex c_X1_requireIndex_b0
  rw [x_len]
  exact x_rI_l hn hr n 0 (by omega) E.1 (by omega)
theorem x_rA_l {n : Nat} {f : Nat → Int32} (hn : n < 100) (hr : rm (gt g n f) 1 6) : ∀ (k j : Nat), j + k = n → ∀ m, k < m → c_X1_requireArguments_l7 E N m g.2.1 (Int32.ofNat n) (Int32.ofNat j) s (gt g n f) = some (if gall f j k = true then (.inl (), (s, gt g n f)) else (.inr (21, g.2.1 + 1), (s, ge (gt g n f) 21))) := by
  intro k
  induction k with
  | zero =>
    intro j hj m hm
    obtain ⟨m, rfl⟩ : ∃ m1, m = m1 + 1 := ⟨m - 1, by omega⟩
    unfold c_X1_requireArguments_l7
    rw [if_pos (by rw [show j = n by omega]; exact Int32.le_refl _)]
    rfl
  | succ k ih =>
    intro j hj m hm
    obtain ⟨m, rfl⟩ : ∃ m1, m = m1 + 1 := ⟨m - 1, by omega⟩
    have hj2 : j < 2 ^ 31 := by omega
    unfold c_X1_requireArguments_l7 gall
    rw [if_neg (by rw [Int32.not_le]; exact (i32_lt hj2 (by omega)).mpr (by omega)), x_dI (by omega) hn, b1_some]
    by_cases hz : f j = 0
    · rw [if_pos hz, if_pos hz, x_nO hr, b2_some]
      show ((ckt (ge (gt g n f) 21) (gt g n f).2.1 21).bind _) = _
      rw [x_ckt]
      rfl
    · rw [if_neg hz, if_neg hz, i32_s]
      exact ih (j + 1) (by omega) m (by omega)
theorem x_rA (hE : 1000 ≤ E.1) {n : Nat} {f : Nat → Int32} (hn : n < 100) (hr : rm (gt g n f) 1 6) : c_X1_requireArguments E N g.2.1 s (gt g n f) = some (if gall f 0 n = true then (.inl (), (s, gt g n f)) else (.inr (21, g.2.1 + 1), (s, ge (gt g n f) 21))) := by
  unfold c_X1_requireArguments c_X1_requireArguments_b0
  rw [x_len]
  exact x_rA_l hn hr n 0 (by omega) E.1 (by omega)
/-- Ww over one, two, four asked truths -/
theorem ga1 (a : Prop) {d : Decidable a} : gall (va_up (fun _ => 0) 0 (if a then (1 : Int32) else 0)) 0 1 = true ↔ a := by
  by_cases h : a
  · rw [if_pos h]; exact ⟨fun _ => h, fun _ => by decide⟩
  · rw [if_neg h]; exact ⟨fun q => absurd q (by decide), fun q => absurd q h⟩
theorem ga2 (a b : Prop) {d : Decidable a} {d1 : Decidable b} : gall (va_up (va_up (fun _ => 0) 0 (if a then (1 : Int32) else 0)) 1 (if b then (1 : Int32) else 0)) 0 2 = true ↔ a ∧ b := by
  by_cases h : a
  · by_cases h1 : b
    · rw [if_pos h, if_pos h1]; exact ⟨fun _ => ⟨h, h1⟩, fun _ => by decide⟩
    · rw [if_pos h, if_neg h1]; exact ⟨fun q => absurd q (by decide), fun q => absurd q.2 h1⟩
  · by_cases h1 : b
    · rw [if_neg h, if_pos h1]; exact ⟨fun q => absurd q (by decide), fun q => absurd q.1 h⟩
    · rw [if_neg h, if_neg h1]; exact ⟨fun q => absurd q (by decide), fun q => absurd q.1 h⟩
theorem w_rI (hE : 1000 ≤ E.1) {n : Nat} {f : Nat → Int32} (hn : n < 100) (hr : rm (gt g n f) 1 6) {Q : (Unit ⊕ (Nat × Nat)) × (cT × zH) → Prop} : Ww (c_X1_requireIndex E N g.2.1 s (gt g n f)) Q ↔ (gall f 0 n = true → Q (.inl (), (s, gt g n f))) ∧ (¬ gall f 0 n = true → Q (.inr (20, g.2.1 + 1), (s, ge (gt g n f) 20))) := by
  rw [x_rI hE hn hr, w_some]
  by_cases h : gall f 0 n = true
  · rw [if_pos h]; exact ⟨fun q => ⟨fun _ => q, fun n => absurd h n⟩, fun q => q.1 h⟩
  · rw [if_neg h]; exact ⟨fun q => ⟨fun n => absurd n h, fun _ => q⟩, fun q => q.2 h⟩
theorem w_rA (hE : 1000 ≤ E.1) {n : Nat} {f : Nat → Int32} (hn : n < 100) (hr : rm (gt g n f) 1 6) {Q : (Unit ⊕ (Nat × Nat)) × (cT × zH) → Prop} : Ww (c_X1_requireArguments E N g.2.1 s (gt g n f)) Q ↔ (gall f 0 n = true → Q (.inl (), (s, gt g n f))) ∧ (¬ gall f 0 n = true → Q (.inr (21, g.2.1 + 1), (s, ge (gt g n f) 21))) := by
  rw [x_rA hE hn hr, w_some]
  by_cases h : gall f 0 n = true
  · rw [if_pos h]; exact ⟨fun q => ⟨fun _ => q, fun n => absurd h n⟩, fun q => q.1 h⟩
  · rw [if_neg h]; exact ⟨fun q => ⟨fun n => absurd n h, fun _ => q⟩, fun q => q.2 h⟩
end LF
