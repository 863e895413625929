/-! HELPERS of the printed functions and walks -/
set_option maxRecDepth 100000
theorem zbind {α β : Type} {o : Option α} {f : α → Option β} {r : β} (h : o.bind f = some r) : ∃ x, o = some x ∧ f x = some r := by
  cases o with
  | none => cases h
  | some x => exact ⟨x, rfl, h⟩
def bnd2 {α β γ : Type} (o : Option (α × β)) (f : α → β → Option γ) : Option γ := match o with
  | some (a, b) => f a b
  | none => none
theorem zbind2 {α β γ : Type} {o : Option (α × β)} {f : α → β → Option γ} {r : γ} (h : bnd2 o f = some r) : ∃ x y, o = some (x, y) ∧ f x y = some r := by
  cases o with
  | none => cases h
  | some x => exact ⟨x.1, x.2, rfl, h⟩
theorem zif_t {c : Prop} [Decidable c] {α : Sort _} {a b r : α} (hc : c) (h : (if c then a else b) = r) : a = r := by rw [if_pos hc] at h; exact h
theorem zif_f {c : Prop} [Decidable c] {α : Sort _} {a b r : α} (hc : ¬ c) (h : (if c then a else b) = r) : b = r := by rw [if_neg hc] at h; exact h
theorem zinl {α β γ : Type} {f : α → γ} {g : β → γ} {x : α} {r : γ} (h : Sum.elim f g (.inl x) = r) : f x = r := h
theorem zinr {α β γ : Type} {f : α → γ} {g : β → γ} {x : β} {r : γ} (h : Sum.elim f g (.inr x) = r) : g x = r := h
def zopt {α β : Type} (o : Option α) (a : β) (f : α → β) : β := match o with
  | none => a
  | some x => f x
theorem zopt_n {α β : Type} {a r : β} {f : α → β} (h : zopt none a f = r) : a = r := h
theorem zopt_s {α β : Type} {x : α} {a r : β} {f : α → β} (h : zopt (some x) a f = r) : f x = r := h
theorem zl_lt {x y : Int64} : lg_cmp x y < 0 ↔ x < y := by
  unfold lg_cmp
  simp only [gt_iff_lt, Int64.lt_iff_toInt_lt, Int64.le_iff_toInt_le, ← Int64.toInt_inj]
  split
  · constructor
    · intro h; exact absurd h (by decide)
    · intro h; omega
  · split
    · constructor
      · intro h; exact absurd h (by decide)
      · intro h; omega
    · constructor
      · intro h; omega
      · intro h; decide
theorem zl_gt {x y : Int64} : 0 < lg_cmp x y ↔ y < x := by
  unfold lg_cmp
  simp only [gt_iff_lt, Int64.lt_iff_toInt_lt, Int64.le_iff_toInt_le, ← Int64.toInt_inj]
  split
  · constructor
    · intro h; assumption
    · intro h; decide
  · split
    · constructor
      · intro h; exact absurd h (by decide)
      · intro h; omega
    · constructor
      · intro h; exact absurd h (by decide)
      · intro h; omega
theorem zl_eq {x y : Int64} : lg_cmp x y = 0 ↔ x = y := by
  unfold lg_cmp
  simp only [gt_iff_lt, Int64.lt_iff_toInt_lt, Int64.le_iff_toInt_le, ← Int64.toInt_inj]
  split
  · constructor
    · intro h; exact absurd h (by decide)
    · intro h; omega
  · split
    · constructor
      · intro h; assumption
      · intro h; rfl
    · constructor
      · intro h; exact absurd h (by decide)
      · intro h; omega
theorem zl_ge {x y : Int64} : 0 ≤ lg_cmp x y ↔ y ≤ x := by
  rw [← Int32.not_lt, zl_lt, Int64.not_lt]
theorem zl_le {x y : Int64} : lg_cmp x y ≤ 0 ↔ x ≤ y := by
  rw [← Int32.not_lt, zl_gt, Int64.not_lt]
theorem zl_ne {x y : Int64} : ¬ lg_cmp x y = 0 ↔ ¬ x = y := not_congr zl_eq
theorem zl_ltn {x y : Int64} : ¬ lg_cmp x y < 0 ↔ ¬ x < y := not_congr zl_lt
theorem zl_gtn {x y : Int64} : ¬ 0 < lg_cmp x y ↔ ¬ y < x := not_congr zl_gt
theorem zl_eqn {x y : Int64} : ¬ lg_cmp x y = 0 ↔ ¬ x = y := not_congr zl_eq
theorem zl_nen {x y : Int64} : lg_cmp x y = 0 ↔ x = y := zl_eq
theorem zl_gen {x y : Int64} : ¬ 0 ≤ lg_cmp x y ↔ ¬ y ≤ x := not_congr zl_ge
theorem zl_len {x y : Int64} : ¬ lg_cmp x y ≤ 0 ↔ ¬ x ≤ y := not_congr zl_le
/-- a value fits its type -/
def zgd (ty : FieldType) (x : Int32) : Option Unit := if narrow ty (.int x) = .int x ∧ fits ty (.int x) = true then some () else none
theorem zgd_n {ty : FieldType} {x : Int32} {u : Unit} (h : zgd ty x = some u) : narrow ty (.int x) = .int x := by
  unfold zgd at h
  split at h
  · rename_i q; exact q.1
  · cases h
theorem zgd_f {ty : FieldType} {x : Int32} {u : Unit} (h : zgd ty x = some u) : fits ty (.int x) = true := by
  unfold zgd at h
  split at h
  · rename_i q; exact q.2
  · cases h
theorem zgd_b {x : Int32} {u : Unit} (h : zgd .boolean x = some u) : x = 0 ∨ x = 1 := by
  have h1 := zgd_n h
  have h2 : Value.int (x &&& 1) = .int x := h1
  have h3 : x &&& 1 = x := Value.int.inj h2
  obtain ⟨j, hj, hx⟩ := pk_andE x (m := 1) 1 (by decide)
  rw [h3] at hx
  rcases (show j = 0 ∨ j = 1 by omega) with rfl | rfl
  · exact Or.inl hx
  · exact Or.inr hx
def cko (h : zH) (b ci : Nat) : Option Unit := if isO h b ci = true then some () else none
theorem zcko {h : zH} {b ci : Nat} {u : Unit} (q : cko h b ci = some u) : isO h b ci = true := by
  unfold cko at q
  split at q
  · assumption
  · cases q
def ckt (h : zH) (b ci : Nat) : Option Unit := match h.1 b with
  | some (true, .inr (c, _)) => if c = ci then some () else none
  | _ => none
theorem zckt {h : zH} {b ci : Nat} {u : Unit} (q : ckt h b ci = some u) : ∃ fs, h.1 b = some (true, .inr (ci, fs)) := by
  unfold ckt at q
  split at q
  · rename_i c fs hh
    split at q
    · rename_i hc
      subst hc
      exact ⟨fs, hh⟩
    · cases q
  · cases q
def zn0I (x : Int32) : Option Unit := if x = 0 then none else some ()
def zn0L (x : Int64) : Option Unit := if x = 0 then none else some ()
theorem zn0I_ne {x : Int32} {u : Unit} (q : zn0I x = some u) : ¬ x = 0 := by
  unfold zn0I at q
  split at q
  · cases q
  · assumption
theorem zn0L_ne {x : Int64} {u : Unit} (q : zn0L x = some u) : ¬ x = 0 := by
  unfold zn0L at q
  split at q
  · cases q
  · assumption
def zoV (_ : Unit) : zO := .inl none
def zoI (x : Int32) : zO := .inl (some (.int x))
def zoL (x : Int64) : zO := .inl (some (.long x))
def zoR (x : Nat) : zO := .inl (some (.ref x))
def zoQ (x : Option Nat) : zO := .inl (some (va_rf x))
def zoT {α : Type} (f : α → zO) (z : α ⊕ (Nat × Nat)) : zO := match z with
  | .inl x => f x
  | .inr q => .inr q
theorem zcat_rf (r : Option Nat) : (va_rf r).category = 1 := by cases r <;> rfl
theorem znar_rf (r : Option Nat) {n : String} : narrow (.object n) (va_rf r) = va_rf r := by cases r <;> rfl
theorem zfit_rf (n : String) (r : Option Nat) : fits (.object n) (va_rf r) = true := by cases r <;> rfl
theorem zfit_rfA (t : FieldType) (r : Option Nat) : fits (.array t) (va_rf r) = true := by cases r <;> rfl
theorem zretW {p : Program} {l : Launch} {e : Env} {R : Room} {s : State} {m : MethodId} {args : Array Value} {below : List Frame} {meth : Method} {c : Code} {D : zD} {B0 nL pc : Nat} {lv : List (Nat × Value)} {st : List Value} {α : Type} {zo : α → zO} {x r : α} {h hc h' : zH} (hf : some (x, hc) = some (r, h')) (k : zW p l e R s m args below meth c D B0 nL (zEnd D B0 R below args s (zo x) hc) h pc lv st) : zW p l e R s m args below meth c D B0 nL (zEnd D B0 R below args s (zo r) h') h pc lv st := by
  cases hf
  exact k
theorem znar_rfA (r : Option Nat) {t : FieldType} : narrow (.array t) (va_rf r) = va_rf r := by cases r <;> rfl
