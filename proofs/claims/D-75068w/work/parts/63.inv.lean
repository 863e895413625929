/-! what lies under the codes: the ledger is 1; books at o + 10 .. ; and the first questions -/
set_option maxRecDepth 100000
def iX (s : cT) (o : Nat) : Prop := s.1 1 = (1, 0) ∧ s.2.2.2 1 0 = some 2 ∧ s.2.2.2 1 1 = some (o + 10) ∧ s.2.2.2 1 2 = some 21 ∧ s.2.2.2 1 3 = some 22 ∧ s.2.2.2 1 4 = some 26 ∧ s.2.2.2 1 5 = some 24 ∧ s.2.2.2 1 6 = some 23 ∧ s.1 21 = (8, 2) ∧ s.1 22 = (4, 900) ∧ s.1 23 = (4, 1500)
def iFr (s : cT) (o i : Nat) : Prop := s.1 (o + 130 + i) = (1, 10) ∧ s.2.2.2 (o + 130 + i) 0 = some (o + 140 + i) ∧ s.2.2.2 (o + 130 + i) 1 = some (o + 150 + i) ∧ s.2.2.2 (o + 130 + i) 2 = some (o + 160 + i) ∧ s.1 (o + 140 + i) = (1, 11) ∧ s.1 (o + 150 + i) = (7, 60) ∧ s.1 (o + 160 + i) = (3, 60)
def iGr (s : cT) (o : Nat) : Prop := s.1 (o + 15) = (1, 5) ∧ s.2.2.2 (o + 15) 0 = some (o + 16) ∧ s.2.2.2 (o + 15) 1 = some (o + 17) ∧ s.2.2.2 (o + 15) 2 = some (o + 18) ∧ s.1 (o + 16) = (4, 900) ∧ s.1 (o + 17) = (2, 900) ∧ s.1 (o + 18) = (5, 900)
def iBk (s : cT) (o nf no : Nat) : Prop := s.1 (o + 10) = (1, 4) ∧ s.2.2.2 (o + 10) 0 = some (o + 11) ∧ s.2.2.2 (o + 10) 1 = some (o + 13) ∧ s.2.2.2 (o + 10) 2 = some (o + 15) ∧ s.2.2.2 (o + 10) 3 = some (o + 19) ∧ s.2.2.2 (o + 10) 4 = some (o + 20) ∧ s.2.2.2 (o + 10) 6 = some 1 ∧ nf ≤ 8 ∧ no ≤ 16 ∧ lst s (o + 11) (o + 12) nf (fun i => o + 130 + i) ∧ lst s (o + 13) (o + 14) no (fun k => o + 170 + k) ∧ iGr s o ∧ (∀ i, i < nf → iFr s o i) ∧ (∀ k, k < no → s.1 (o + 170 + k) = (1, 13)) ∧ s.1 (o + 19) = (7, 8) ∧ (∀ f, f < 8 → s.2.2.2 (o + 19) f = some (o + 190 + f) ∧ s.1 (o + 190 + f) = (3, 8)) ∧ s.1 (o + 20) = (3, 3)
/-- f is one of n -/
def inF (f : Int32) (n : Nat) : Prop := 0 ≤ f.toInt ∧ f.toInt < n
theorem inF_ex {f : Int32} {n : Nat} (h : inF f n) : ∃ i, i < n ∧ f = Int32.ofNat i := by
  refine ⟨f.toInt.toNat, by have := h.1; have := h.2; omega, ?_⟩
  apply Int32.toInt_inj.mp
  have h3 : f.toInt < 2 ^ 31 := Int32.toInt_lt f
  rw [Int32.toInt_ofNat_of_lt (by have := h.1; omega)]
  have := h.1
  omega
theorem inF_of {i n : Nat} (h : i < n) (hn : n < 2 ^ 31) : inF (Int32.ofNat i) n := by
  unfold inF
  rw [Int32.toInt_ofNat_of_lt (by omega)]
  omega
theorem i64_of32 (f : Int32) : f.toInt64.toInt = f.toInt := Int32.toInt_toInt64 f
theorem inF_iff (f : Int32) {n : Nat} (hn : n < 2 ^ 31) : ((0 : Int64) ≤ f.toInt64 ∧ f.toInt64 ≤ (Int32.ofNat n - 1).toInt64) ↔ inF f n := by
  rw [Int64.le_iff_toInt_le, Int64.le_iff_toInt_le, i64_of32, i64_of32]
  have e : (Int32.ofNat n - 1).toInt = (n : Int) - 1 := by
    rw [Int32.toInt_sub, Int32.toInt_ofNat_of_lt hn]
    show ((n : Int) - 1).bmod (2 ^ 32) = _
    rw [Int.bmod_eq_of_le (by omega) (by omega)]
  rw [e]
  unfold inF
  show (0 : Int) ≤ f.toInt ∧ _ ↔ _
  omega
theorem tbc {α β γ : Type} {o : Option (α × β)} {a : α} {b : β} {F : α → β → Option γ} {r : Option γ} (h : o = some (a, b)) (k : F a b = r) : bnd2 o F = r := by rw [h]; exact k
section IV
variable {p : cP} {s : cT} {g : zH} {o nf no : Nat}
theorem b_isFr (hp : okP p s) (hx : iX s o) (hb : iBk s o nf no) (E : zE) (f : Int32) {d : Decidable (inF f nf)} : f_X1_isFranchisee E (p.1 1) f (cH p s g) = some (if inF f nf then (1 : Int32) else 0, cH p s g) := by
  have hl := hb.2.2.2.2.2.2.2.2.2.1
  unfold f_X1_isFranchisee f_X1_isFranchisee_b0
  refine tb1 (c_gR hp hx.1 rfl hx.2.2.1) ?_
  refine tb1 (c_gR hp hb.1 rfl hb.2.1) ?_
  refine tb1 (c_cko hp hl.1) ?_
  refine tbc (b_size hp hl E) ?_
  refine tbc (b_inRange _ _ _ _ _) ?_
  have e := inF_iff f (n := nf) (by have := hl.2.2.2.1; omega)
  by_cases h : inF f nf
  · rw [if_pos h, if_pos (e.mpr h)]
    exact tb1 zgd1 rfl
  · rw [if_neg h, if_neg (fun h1 => h (e.mp h1))]
    exact tb1 zgd0 rfl
theorem b_fr_t (hp : okP p s) (ho : okG p g) (hx : iX s o) (hb : iBk s o nf no) (hr : rm g 2 7) (E : zE) (hE : 100 ≤ E.1) {i : Nat} (hi : i < nf) : f_X1_franchisee E (p.1 1) (Int32.ofNat i) (cH p s g) = some (.inl (p.1 (o + 130 + i)), cH p s (gt g 1 (va_up (fun _ => 0) 0 1))) := by
  have hl := hb.2.2.2.2.2.2.2.2.2.1
  have ho1 := okG_gx ho (gx_gt g 1 fun _ => 0)
  unfold f_X1_franchisee f_X1_franchisee_b0
  refine tbc (n_new (n := 1) ho (by decide) ⟨by have := hr.1; omega, by have := hr.2; omega⟩ rfl) ?_
  refine tb1 (c_cko hp hx.1) ?_
  refine tbc (b_isFr hp hx hb E _ (d := .isTrue (inF_of hi (by have := hl.2.2.2.1; omega)))) ?_
  refine tb1 zgd1 ?_
  refine tb1 (n_set (j := 0) ho (by decide) (by decide) rfl) ?_
  refine tbc ((b_reqIndex E hE ho (by decide) (rm_gx (k := 1) (n := 1) hr (gx_gt g 1 _))).trans (congrArg some (if_pos rfl))) ?_
  refine tb1 (c_gR hp hx.1 rfl hx.2.2.1) ?_
  refine tb1 (c_gR hp hb.1 rfl hb.2.1) ?_
  refine tb1 (c_cko hp hl.1) ?_
  refine tbc (b_get hp hl E hi) ?_
  refine tb1 (c_cko hp (hb.2.2.2.2.2.2.2.2.2.2.2.2.1 i hi).1) ?_
  rfl
theorem b_fr_f (hp : okP p s) (ho : okG p g) (hx : iX s o) (hb : iBk s o nf no) (hr : rm g 2 7) (E : zE) (hE : 100 ≤ E.1) {f : Int32} (hf : ¬ inF f nf) : f_X1_franchisee E (p.1 1) f (cH p s g) = some (.inr (20, g.2.1 + 1), cH p s (ge (gt g 1 (va_up (fun _ => 0) 0 0)) 20)) := by
  unfold f_X1_franchisee f_X1_franchisee_b0
  refine tbc (n_new (n := 1) ho (by decide) ⟨by have := hr.1; omega, by have := hr.2; omega⟩ rfl) ?_
  refine tb1 (c_cko hp hx.1) ?_
  refine tbc (b_isFr hp hx hb E _ (d := .isFalse hf)) ?_
  refine tb1 zgd0 ?_
  refine tb1 (n_set (j := 0) ho (by decide) (by decide) rfl) ?_
  refine tbc ((b_reqIndex E hE ho (by decide) (rm_gx (k := 1) (n := 1) hr (gx_gt g 1 _))).trans (congrArg some (if_neg (show ¬ gall (va_up (fun _ => 0) 0 0) 0 1 = true by decide)))) ?_
  rfl
end IV
