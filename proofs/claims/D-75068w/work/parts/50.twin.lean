/-! the twin: its ten cells, and what it does to them, without the heap -/
set_option maxRecDepth 100000
abbrev twS : Type := (Nat → Int64) × ((Nat → Int64) × ((Nat → Nat → Int32) × ((Nat → Int32) × Int64)))
def tSc (s : twS) (k : Nat) : Int32 := s.2.2.2.1 k
def uSc (s : twS) (k : Nat) (v : Int32) : twS := (s.1, (s.2.1, (s.2.2.1, (va_up s.2.2.2.1 k v, s.2.2.2.2))))
def uVl (s : twS) (v : Int64) : twS := (s.1, (s.2.1, (s.2.2.1, (s.2.2.2.1, v))))
def uSt (s : twS) (f : Nat → Int64) : twS := (f, s.2)
def uAm (s : twS) (f : Nat → Int64) : twS := (s.1, (f, s.2.2))
def uAr (s : twS) (i : Nat) (f : Nat → Int32) : twS := (s.1, (s.2.1, (va_up s.2.2.1 i f, s.2.2.2)))
def twC (s : twS) (q : Nat) (i : Nat) : zC := match i with
  | 0 => (true, .inr (1, [.ref (q + 1), .ref (q + 2), .int (s.2.2.2.1 2), .ref (q + 3), .ref (q + 4), .ref (q + 5), .ref (q + 6), .int (s.2.2.2.1 7), .ref (q + 7), .int (s.2.2.2.1 9), .int (s.2.2.2.1 10), .int (s.2.2.2.1 11), .int (s.2.2.2.1 12), .int (s.2.2.2.1 13), .int (s.2.2.2.1 14), .int (s.2.2.2.1 15), .long s.2.2.2.2, .ref (q + 8), .ref (q + 9), .int (s.2.2.2.1 19), .int (s.2.2.2.1 20), .int (s.2.2.2.1 21)]))
  | 1 => (true, .inl (1, 20216, .inr (.inl s.1)))
  | 2 => (true, .inl (3, 2, .inl (s.2.2.1 2)))
  | 3 => (true, .inl (3, 900, .inl (s.2.2.1 3)))
  | 4 => (true, .inl (3, 900, .inl (s.2.2.1 4)))
  | 5 => (true, .inl (1, 7, .inr (.inl s.2.1)))
  | 6 => (true, .inl (2, 300, .inl (s.2.2.1 6)))
  | 7 => (true, .inl (2, 1500, .inl (s.2.2.1 7)))
  | 8 => (true, .inl (0, 200, .inl (s.2.2.1 8)))
  | _ => (true, .inl (0, 200, .inl (s.2.2.1 9)))
def tw (s : twS) (q : Nat) (g : zH) : zH := (fun a => if q ≤ a ∧ a < q + 10 then some (twC s q (a - q)) else g.1 a, g.2)
theorem tw_at (s : twS) (q : Nat) (g : zH) {i : Nat} (hi : i < 10) : (tw s q g).1 (q + i) = some (twC s q i) := by
  show (if q ≤ q + i ∧ q + i < q + 10 then some (twC s q (q + i - q)) else g.1 (q + i)) = _
  rw [if_pos ⟨by omega, by omega⟩, show q + i - q = i by omega]
theorem tw_at0 (s : twS) (q : Nat) (g : zH) : (tw s q g).1 q = some (twC s q 0) := tw_at s q g (i := 0) (by decide)
theorem tw_put (s s1 : twS) (q : Nat) (g : zH) {i : Nat} (hi : i < 10) (h : ∀ j, j < 10 → j ≠ i → twC s1 q j = twC s q j) : zup (tw s q g) (q + i) (twC s1 q i) = tw s1 q g := by
  refine Prod.ext ?_ rfl
  funext a
  show va_up (tw s q g).1 (q + i) (some (twC s1 q i)) a = (if q ≤ a ∧ a < q + 10 then some (twC s1 q (a - q)) else g.1 a)
  unfold va_up
  by_cases h1 : a = q + i
  · rw [if_pos h1, if_pos ⟨by omega, by omega⟩, show a - q = i by omega]
  · rw [if_neg h1]
    show (if q ≤ a ∧ a < q + 10 then some (twC s q (a - q)) else g.1 a) = _
    by_cases h2 : q ≤ a ∧ a < q + 10
    · rw [if_pos h2, if_pos h2, h (a - q) (by omega) (by omega)]
    · rw [if_neg h2, if_neg h2]
theorem tw_c10 {s s1 : twS} {q i : Nat} (h : ∀ j, j < 10 → j ≠ i → twC s1 q j = twC s q j) : ∀ j, j < 10 → j ≠ i → twC s1 q j = twC s q j := h
theorem tw_gI_2 (s : twS) (q : Nat) (g : zH) : gI (tw s q g) q 1 2 = some (tSc s 2) := by
  unfold gI gF
  rw [tw_at0]
  rfl
theorem tw_gI_7 (s : twS) (q : Nat) (g : zH) : gI (tw s q g) q 1 7 = some (tSc s 7) := by
  unfold gI gF
  rw [tw_at0]
  rfl
theorem tw_gI_9 (s : twS) (q : Nat) (g : zH) : gI (tw s q g) q 1 9 = some (tSc s 9) := by
  unfold gI gF
  rw [tw_at0]
  rfl
theorem tw_gI_10 (s : twS) (q : Nat) (g : zH) : gI (tw s q g) q 1 10 = some (tSc s 10) := by
  unfold gI gF
  rw [tw_at0]
  rfl
theorem tw_gI_11 (s : twS) (q : Nat) (g : zH) : gI (tw s q g) q 1 11 = some (tSc s 11) := by
  unfold gI gF
  rw [tw_at0]
  rfl
theorem tw_gI_12 (s : twS) (q : Nat) (g : zH) : gI (tw s q g) q 1 12 = some (tSc s 12) := by
  unfold gI gF
  rw [tw_at0]
  rfl
theorem tw_gI_13 (s : twS) (q : Nat) (g : zH) : gI (tw s q g) q 1 13 = some (tSc s 13) := by
  unfold gI gF
  rw [tw_at0]
  rfl
theorem tw_gI_14 (s : twS) (q : Nat) (g : zH) : gI (tw s q g) q 1 14 = some (tSc s 14) := by
  unfold gI gF
  rw [tw_at0]
  rfl
theorem tw_gI_15 (s : twS) (q : Nat) (g : zH) : gI (tw s q g) q 1 15 = some (tSc s 15) := by
  unfold gI gF
  rw [tw_at0]
  rfl
theorem tw_gI_19 (s : twS) (q : Nat) (g : zH) : gI (tw s q g) q 1 19 = some (tSc s 19) := by
  unfold gI gF
  rw [tw_at0]
  rfl
theorem tw_gI_20 (s : twS) (q : Nat) (g : zH) : gI (tw s q g) q 1 20 = some (tSc s 20) := by
  unfold gI gF
  rw [tw_at0]
  rfl
theorem tw_gI_21 (s : twS) (q : Nat) (g : zH) : gI (tw s q g) q 1 21 = some (tSc s 21) := by
  unfold gI gF
  rw [tw_at0]
  rfl
theorem tw_gL_16 (s : twS) (q : Nat) (g : zH) : gL (tw s q g) q 1 16 = some s.2.2.2.2 := by
  unfold gL gF
  rw [tw_at0]
  rfl
theorem tw_gR_0 (s : twS) (q : Nat) (g : zH) : gR (tw s q g) q 1 0 = some (q + 1) := by
  unfold gR gF
  rw [tw_at0]
  rfl
theorem tw_gR_1 (s : twS) (q : Nat) (g : zH) : gR (tw s q g) q 1 1 = some (q + 2) := by
  unfold gR gF
  rw [tw_at0]
  rfl
theorem tw_gR_3 (s : twS) (q : Nat) (g : zH) : gR (tw s q g) q 1 3 = some (q + 3) := by
  unfold gR gF
  rw [tw_at0]
  rfl
theorem tw_gR_4 (s : twS) (q : Nat) (g : zH) : gR (tw s q g) q 1 4 = some (q + 4) := by
  unfold gR gF
  rw [tw_at0]
  rfl
theorem tw_gR_5 (s : twS) (q : Nat) (g : zH) : gR (tw s q g) q 1 5 = some (q + 5) := by
  unfold gR gF
  rw [tw_at0]
  rfl
theorem tw_gR_6 (s : twS) (q : Nat) (g : zH) : gR (tw s q g) q 1 6 = some (q + 6) := by
  unfold gR gF
  rw [tw_at0]
  rfl
theorem tw_gR_8 (s : twS) (q : Nat) (g : zH) : gR (tw s q g) q 1 8 = some (q + 7) := by
  unfold gR gF
  rw [tw_at0]
  rfl
theorem tw_gR_17 (s : twS) (q : Nat) (g : zH) : gR (tw s q g) q 1 17 = some (q + 8) := by
  unfold gR gF
  rw [tw_at0]
  rfl
theorem tw_gR_18 (s : twS) (q : Nat) (g : zH) : gR (tw s q g) q 1 18 = some (q + 9) := by
  unfold gR gF
  rw [tw_at0]
  rfl
theorem tw_pI_2 (s : twS) (q : Nat) (g : zH) (v : Int32) : pF (tw s q g) q 1 2 (.int v) = some (tw (uSc s 2 v) q g) := by
  unfold pF
  rw [tw_at0]
  refine congrArg some (Eq.trans ?_ (tw_put s (uSc s 2 v) q g (i := 0) (by decide) fun j hj hn => ?_))
  · rfl
  · rcases (show j = 0 ∨ j = 1 ∨ j = 2 ∨ j = 3 ∨ j = 4 ∨ j = 5 ∨ j = 6 ∨ j = 7 ∨ j = 8 ∨ j = 9 by omega) with rfl | rfl | rfl | rfl | rfl | rfl | rfl | rfl | rfl | rfl
    · exact absurd rfl hn
    · rfl
    · rfl
    · rfl
    · rfl
    · rfl
    · rfl
    · rfl
    · rfl
    · rfl
theorem tw_pI_7 (s : twS) (q : Nat) (g : zH) (v : Int32) : pF (tw s q g) q 1 7 (.int v) = some (tw (uSc s 7 v) q g) := by
  unfold pF
  rw [tw_at0]
  refine congrArg some (Eq.trans ?_ (tw_put s (uSc s 7 v) q g (i := 0) (by decide) fun j hj hn => ?_))
  · rfl
  · rcases (show j = 0 ∨ j = 1 ∨ j = 2 ∨ j = 3 ∨ j = 4 ∨ j = 5 ∨ j = 6 ∨ j = 7 ∨ j = 8 ∨ j = 9 by omega) with rfl | rfl | rfl | rfl | rfl | rfl | rfl | rfl | rfl | rfl
    · exact absurd rfl hn
    · rfl
    · rfl
    · rfl
    · rfl
    · rfl
    · rfl
    · rfl
    · rfl
    · rfl
theorem tw_pI_9 (s : twS) (q : Nat) (g : zH) (v : Int32) : pF (tw s q g) q 1 9 (.int v) = some (tw (uSc s 9 v) q g) := by
  unfold pF
  rw [tw_at0]
  refine congrArg some (Eq.trans ?_ (tw_put s (uSc s 9 v) q g (i := 0) (by decide) fun j hj hn => ?_))
  · rfl
  · rcases (show j = 0 ∨ j = 1 ∨ j = 2 ∨ j = 3 ∨ j = 4 ∨ j = 5 ∨ j = 6 ∨ j = 7 ∨ j = 8 ∨ j = 9 by omega) with rfl | rfl | rfl | rfl | rfl | rfl | rfl | rfl | rfl | rfl
    · exact absurd rfl hn
    · rfl
    · rfl
    · rfl
    · rfl
    · rfl
    · rfl
    · rfl
    · rfl
    · rfl
theorem tw_pI_10 (s : twS) (q : Nat) (g : zH) (v : Int32) : pF (tw s q g) q 1 10 (.int v) = some (tw (uSc s 10 v) q g) := by
  unfold pF
  rw [tw_at0]
  refine congrArg some (Eq.trans ?_ (tw_put s (uSc s 10 v) q g (i := 0) (by decide) fun j hj hn => ?_))
  · rfl
  · rcases (show j = 0 ∨ j = 1 ∨ j = 2 ∨ j = 3 ∨ j = 4 ∨ j = 5 ∨ j = 6 ∨ j = 7 ∨ j = 8 ∨ j = 9 by omega) with rfl | rfl | rfl | rfl | rfl | rfl | rfl | rfl | rfl | rfl
    · exact absurd rfl hn
    · rfl
    · rfl
    · rfl
    · rfl
    · rfl
    · rfl
    · rfl
    · rfl
    · rfl
theorem tw_pI_11 (s : twS) (q : Nat) (g : zH) (v : Int32) : pF (tw s q g) q 1 11 (.int v) = some (tw (uSc s 11 v) q g) := by
  unfold pF
  rw [tw_at0]
  refine congrArg some (Eq.trans ?_ (tw_put s (uSc s 11 v) q g (i := 0) (by decide) fun j hj hn => ?_))
  · rfl
  · rcases (show j = 0 ∨ j = 1 ∨ j = 2 ∨ j = 3 ∨ j = 4 ∨ j = 5 ∨ j = 6 ∨ j = 7 ∨ j = 8 ∨ j = 9 by omega) with rfl | rfl | rfl | rfl | rfl | rfl | rfl | rfl | rfl | rfl
    · exact absurd rfl hn
    · rfl
    · rfl
    · rfl
    · rfl
    · rfl
    · rfl
    · rfl
    · rfl
    · rfl
theorem tw_pI_12 (s : twS) (q : Nat) (g : zH) (v : Int32) : pF (tw s q g) q 1 12 (.int v) = some (tw (uSc s 12 v) q g) := by
  unfold pF
  rw [tw_at0]
  refine congrArg some (Eq.trans ?_ (tw_put s (uSc s 12 v) q g (i := 0) (by decide) fun j hj hn => ?_))
  · rfl
  · rcases (show j = 0 ∨ j = 1 ∨ j = 2 ∨ j = 3 ∨ j = 4 ∨ j = 5 ∨ j = 6 ∨ j = 7 ∨ j = 8 ∨ j = 9 by omega) with rfl | rfl | rfl | rfl | rfl | rfl | rfl | rfl | rfl | rfl
    · exact absurd rfl hn
    · rfl
    · rfl
    · rfl
    · rfl
    · rfl
    · rfl
    · rfl
    · rfl
    · rfl
theorem tw_pI_13 (s : twS) (q : Nat) (g : zH) (v : Int32) : pF (tw s q g) q 1 13 (.int v) = some (tw (uSc s 13 v) q g) := by
  unfold pF
  rw [tw_at0]
  refine congrArg some (Eq.trans ?_ (tw_put s (uSc s 13 v) q g (i := 0) (by decide) fun j hj hn => ?_))
  · rfl
  · rcases (show j = 0 ∨ j = 1 ∨ j = 2 ∨ j = 3 ∨ j = 4 ∨ j = 5 ∨ j = 6 ∨ j = 7 ∨ j = 8 ∨ j = 9 by omega) with rfl | rfl | rfl | rfl | rfl | rfl | rfl | rfl | rfl | rfl
    · exact absurd rfl hn
    · rfl
    · rfl
    · rfl
    · rfl
    · rfl
    · rfl
    · rfl
    · rfl
    · rfl
theorem tw_pI_14 (s : twS) (q : Nat) (g : zH) (v : Int32) : pF (tw s q g) q 1 14 (.int v) = some (tw (uSc s 14 v) q g) := by
  unfold pF
  rw [tw_at0]
  refine congrArg some (Eq.trans ?_ (tw_put s (uSc s 14 v) q g (i := 0) (by decide) fun j hj hn => ?_))
  · rfl
  · rcases (show j = 0 ∨ j = 1 ∨ j = 2 ∨ j = 3 ∨ j = 4 ∨ j = 5 ∨ j = 6 ∨ j = 7 ∨ j = 8 ∨ j = 9 by omega) with rfl | rfl | rfl | rfl | rfl | rfl | rfl | rfl | rfl | rfl
    · exact absurd rfl hn
    · rfl
    · rfl
    · rfl
    · rfl
    · rfl
    · rfl
    · rfl
    · rfl
    · rfl
theorem tw_pI_15 (s : twS) (q : Nat) (g : zH) (v : Int32) : pF (tw s q g) q 1 15 (.int v) = some (tw (uSc s 15 v) q g) := by
  unfold pF
  rw [tw_at0]
  refine congrArg some (Eq.trans ?_ (tw_put s (uSc s 15 v) q g (i := 0) (by decide) fun j hj hn => ?_))
  · rfl
  · rcases (show j = 0 ∨ j = 1 ∨ j = 2 ∨ j = 3 ∨ j = 4 ∨ j = 5 ∨ j = 6 ∨ j = 7 ∨ j = 8 ∨ j = 9 by omega) with rfl | rfl | rfl | rfl | rfl | rfl | rfl | rfl | rfl | rfl
    · exact absurd rfl hn
    · rfl
    · rfl
    · rfl
    · rfl
    · rfl
    · rfl
    · rfl
    · rfl
    · rfl
theorem tw_pI_19 (s : twS) (q : Nat) (g : zH) (v : Int32) : pF (tw s q g) q 1 19 (.int v) = some (tw (uSc s 19 v) q g) := by
  unfold pF
  rw [tw_at0]
  refine congrArg some (Eq.trans ?_ (tw_put s (uSc s 19 v) q g (i := 0) (by decide) fun j hj hn => ?_))
  · rfl
  · rcases (show j = 0 ∨ j = 1 ∨ j = 2 ∨ j = 3 ∨ j = 4 ∨ j = 5 ∨ j = 6 ∨ j = 7 ∨ j = 8 ∨ j = 9 by omega) with rfl | rfl | rfl | rfl | rfl | rfl | rfl | rfl | rfl | rfl
    · exact absurd rfl hn
    · rfl
    · rfl
    · rfl
    · rfl
    · rfl
    · rfl
    · rfl
    · rfl
    · rfl
theorem tw_pI_20 (s : twS) (q : Nat) (g : zH) (v : Int32) : pF (tw s q g) q 1 20 (.int v) = some (tw (uSc s 20 v) q g) := by
  unfold pF
  rw [tw_at0]
  refine congrArg some (Eq.trans ?_ (tw_put s (uSc s 20 v) q g (i := 0) (by decide) fun j hj hn => ?_))
  · rfl
  · rcases (show j = 0 ∨ j = 1 ∨ j = 2 ∨ j = 3 ∨ j = 4 ∨ j = 5 ∨ j = 6 ∨ j = 7 ∨ j = 8 ∨ j = 9 by omega) with rfl | rfl | rfl | rfl | rfl | rfl | rfl | rfl | rfl | rfl
    · exact absurd rfl hn
    · rfl
    · rfl
    · rfl
    · rfl
    · rfl
    · rfl
    · rfl
    · rfl
    · rfl
theorem tw_pI_21 (s : twS) (q : Nat) (g : zH) (v : Int32) : pF (tw s q g) q 1 21 (.int v) = some (tw (uSc s 21 v) q g) := by
  unfold pF
  rw [tw_at0]
  refine congrArg some (Eq.trans ?_ (tw_put s (uSc s 21 v) q g (i := 0) (by decide) fun j hj hn => ?_))
  · rfl
  · rcases (show j = 0 ∨ j = 1 ∨ j = 2 ∨ j = 3 ∨ j = 4 ∨ j = 5 ∨ j = 6 ∨ j = 7 ∨ j = 8 ∨ j = 9 by omega) with rfl | rfl | rfl | rfl | rfl | rfl | rfl | rfl | rfl | rfl
    · exact absurd rfl hn
    · rfl
    · rfl
    · rfl
    · rfl
    · rfl
    · rfl
    · rfl
    · rfl
    · rfl
theorem tw_pL_16 (s : twS) (q : Nat) (g : zH) (v : Int64) : pF (tw s q g) q 1 16 (.long v) = some (tw (uVl s v) q g) := by
  unfold pF
  rw [tw_at0]
  refine congrArg some (Eq.trans ?_ (tw_put s (uVl s v) q g (i := 0) (by decide) fun j hj hn => ?_))
  · rfl
  · rcases (show j = 0 ∨ j = 1 ∨ j = 2 ∨ j = 3 ∨ j = 4 ∨ j = 5 ∨ j = 6 ∨ j = 7 ∨ j = 8 ∨ j = 9 by omega) with rfl | rfl | rfl | rfl | rfl | rfl | rfl | rfl | rfl | rfl
    · exact absurd rfl hn
    · rfl
    · rfl
    · rfl
    · rfl
    · rfl
    · rfl
    · rfl
    · rfl
    · rfl
theorem tw_cko (s : twS) (q : Nat) (g : zH) : cko (tw s q g) q 1 = some () := by
  unfold cko isO
  rw [tw_at0]
  rfl
def tdL (s : twS) (o : Nat) (j : Int32) : Option Int64 := match o with
  | 1 => if ¬ (j < 0 ∨ 20216 ≤ j.toNatClampNeg) then some (s.1 j.toNatClampNeg) else none
  | 5 => if ¬ (j < 0 ∨ 7 ≤ j.toNatClampNeg) then some (s.2.1 j.toNatClampNeg) else none
  | _ => none
def tsL (s : twS) (o : Nat) (j : Int32) (v : Int64) : Option twS := match o with
  | 1 => if ¬ (j < 0 ∨ 20216 ≤ j.toNatClampNeg) then some (uSt s (va_up s.1 j.toNatClampNeg v)) else none
  | 5 => if ¬ (j < 0 ∨ 7 ≤ j.toNatClampNeg) then some (uAm s (va_up s.2.1 j.toNatClampNeg v)) else none
  | _ => none
def tdI (s : twS) (o t : Nat) (j : Int32) : Option Int32 := match o with
  | 2 => if t = 3 ∧ ¬ (j < 0 ∨ 2 ≤ j.toNatClampNeg) then some (s.2.2.1 2 j.toNatClampNeg) else none
  | 3 => if t = 3 ∧ ¬ (j < 0 ∨ 900 ≤ j.toNatClampNeg) then some (s.2.2.1 3 j.toNatClampNeg) else none
  | 4 => if t = 3 ∧ ¬ (j < 0 ∨ 900 ≤ j.toNatClampNeg) then some (s.2.2.1 4 j.toNatClampNeg) else none
  | 6 => if t = 2 ∧ ¬ (j < 0 ∨ 300 ≤ j.toNatClampNeg) then some (s.2.2.1 6 j.toNatClampNeg) else none
  | 7 => if t = 2 ∧ ¬ (j < 0 ∨ 1500 ≤ j.toNatClampNeg) then some (s.2.2.1 7 j.toNatClampNeg) else none
  | 8 => if t = 0 ∧ ¬ (j < 0 ∨ 200 ≤ j.toNatClampNeg) then some (s.2.2.1 8 j.toNatClampNeg) else none
  | 9 => if t = 0 ∧ ¬ (j < 0 ∨ 200 ≤ j.toNatClampNeg) then some (s.2.2.1 9 j.toNatClampNeg) else none
  | _ => none
def tsI (s : twS) (o t : Nat) (j : Int32) (v : Int32) : Option twS := match o with
  | 2 => if t = 3 ∧ ¬ (j < 0 ∨ 2 ≤ j.toNatClampNeg) then some (uAr s 2 (va_up (s.2.2.1 2) j.toNatClampNeg v)) else none
  | 3 => if t = 3 ∧ ¬ (j < 0 ∨ 900 ≤ j.toNatClampNeg) then some (uAr s 3 (va_up (s.2.2.1 3) j.toNatClampNeg v)) else none
  | 4 => if t = 3 ∧ ¬ (j < 0 ∨ 900 ≤ j.toNatClampNeg) then some (uAr s 4 (va_up (s.2.2.1 4) j.toNatClampNeg v)) else none
  | 6 => if t = 2 ∧ ¬ (j < 0 ∨ 300 ≤ j.toNatClampNeg) then some (uAr s 6 (va_up (s.2.2.1 6) j.toNatClampNeg v)) else none
  | 7 => if t = 2 ∧ ¬ (j < 0 ∨ 1500 ≤ j.toNatClampNeg) then some (uAr s 7 (va_up (s.2.2.1 7) j.toNatClampNeg v)) else none
  | 8 => if t = 0 ∧ ¬ (j < 0 ∨ 200 ≤ j.toNatClampNeg) then some (uAr s 8 (va_up (s.2.2.1 8) j.toNatClampNeg v)) else none
  | 9 => if t = 0 ∧ ¬ (j < 0 ∨ 200 ≤ j.toNatClampNeg) then some (uAr s 9 (va_up (s.2.2.1 9) j.toNatClampNeg v)) else none
  | _ => none
theorem tw_dL (s : twS) (q : Nat) (g : zH) {o : Nat} (ho : o < 10) (j : Int32) : dL (tw s q g) (q + o) j = tdL s o j := by
  unfold dL
  rw [tw_at s q g ho]
  rcases (show o = 0 ∨ o = 1 ∨ o = 2 ∨ o = 3 ∨ o = 4 ∨ o = 5 ∨ o = 6 ∨ o = 7 ∨ o = 8 ∨ o = 9 by omega) with rfl | rfl | rfl | rfl | rfl | rfl | rfl | rfl | rfl | rfl <;> first | rfl | (show (if _ then _ else _) = (if _ then _ else _); simp)
theorem tw_dI (s : twS) (q : Nat) (g : zH) {o : Nat} (ho : o < 10) (t : Nat) (j : Int32) : dI (tw s q g) (q + o) t j = tdI s o t j := by
  unfold dI
  rw [tw_at s q g ho]
  rcases (show o = 0 ∨ o = 1 ∨ o = 2 ∨ o = 3 ∨ o = 4 ∨ o = 5 ∨ o = 6 ∨ o = 7 ∨ o = 8 ∨ o = 9 by omega) with rfl | rfl | rfl | rfl | rfl | rfl | rfl | rfl | rfl | rfl <;> first | rfl | (show (if _ then _ else _) = (if _ then _ else _); congr 1; simp [eq_comm])
theorem tw_sL (s : twS) (q : Nat) (g : zH) {o : Nat} (ho : o < 10) (j : Int32) (v : Int64) : sL (tw s q g) (q + o) j v = (tsL s o j v).map fun s1 => tw s1 q g := by
  have key : ∀ s1 : twS, (∀ i, i < 10 → i ≠ o → twC s1 q i = twC s q i) → zup (tw s q g) (q + o) (twC s1 q o) = tw s1 q g := fun s1 h => tw_put s s1 q g ho h
  unfold sL
  rw [tw_at s q g ho]
  rcases (show o = 0 ∨ o = 1 ∨ o = 2 ∨ o = 3 ∨ o = 4 ∨ o = 5 ∨ o = 6 ∨ o = 7 ∨ o = 8 ∨ o = 9 by omega) with rfl | rfl | rfl | rfl | rfl | rfl | rfl | rfl | rfl | rfl <;> first | rfl | skip
  · have k1 := key (uSt s (va_up s.1 j.toNatClampNeg v)) (fun i hi hn => by rcases (show i = 0 ∨ i = 1 ∨ i = 2 ∨ i = 3 ∨ i = 4 ∨ i = 5 ∨ i = 6 ∨ i = 7 ∨ i = 8 ∨ i = 9 by omega) with rfl | rfl | rfl | rfl | rfl | rfl | rfl | rfl | rfl | rfl <;> first | rfl | exact absurd rfl hn)
    show (if (1 = 1 ∧ ¬ (j < 0 ∨ 20216 ≤ j.toNatClampNeg)) then _ else _) = (if ¬ (j < 0 ∨ 20216 ≤ j.toNatClampNeg) then _ else _ : Option twS).map _
    by_cases hc : j < 0 ∨ 20216 ≤ j.toNatClampNeg
    · rw [if_neg (fun h => h.2 hc), if_neg (fun h => h hc)]
      rfl
    · rw [if_pos ⟨rfl, hc⟩, if_pos hc]
      exact congrArg some k1
  · have k1 := key (uAm s (va_up s.2.1 j.toNatClampNeg v)) (fun i hi hn => by rcases (show i = 0 ∨ i = 1 ∨ i = 2 ∨ i = 3 ∨ i = 4 ∨ i = 5 ∨ i = 6 ∨ i = 7 ∨ i = 8 ∨ i = 9 by omega) with rfl | rfl | rfl | rfl | rfl | rfl | rfl | rfl | rfl | rfl <;> first | rfl | exact absurd rfl hn)
    show (if (1 = 1 ∧ ¬ (j < 0 ∨ 7 ≤ j.toNatClampNeg)) then _ else _) = (if ¬ (j < 0 ∨ 7 ≤ j.toNatClampNeg) then _ else _ : Option twS).map _
    by_cases hc : j < 0 ∨ 7 ≤ j.toNatClampNeg
    · rw [if_neg (fun h => h.2 hc), if_neg (fun h => h hc)]
      rfl
    · rw [if_pos ⟨rfl, hc⟩, if_pos hc]
      exact congrArg some k1
theorem tw_sI (s : twS) (q : Nat) (g : zH) {o : Nat} (ho : o < 10) (t : Nat) (j : Int32) (v : Int32) : sI (tw s q g) (q + o) t j v = (tsI s o t j v).map fun s1 => tw s1 q g := by
  have key : ∀ s1 : twS, (∀ i, i < 10 → i ≠ o → twC s1 q i = twC s q i) → zup (tw s q g) (q + o) (twC s1 q o) = tw s1 q g := fun s1 h => tw_put s s1 q g ho h
  unfold sI
  rw [tw_at s q g ho]
  rcases (show o = 0 ∨ o = 1 ∨ o = 2 ∨ o = 3 ∨ o = 4 ∨ o = 5 ∨ o = 6 ∨ o = 7 ∨ o = 8 ∨ o = 9 by omega) with rfl | rfl | rfl | rfl | rfl | rfl | rfl | rfl | rfl | rfl <;> first | rfl | skip
  · have k1 := key (uAr s 2 (va_up (s.2.2.1 2) j.toNatClampNeg v)) (fun i hi hn => by rcases (show i = 0 ∨ i = 1 ∨ i = 2 ∨ i = 3 ∨ i = 4 ∨ i = 5 ∨ i = 6 ∨ i = 7 ∨ i = 8 ∨ i = 9 by omega) with rfl | rfl | rfl | rfl | rfl | rfl | rfl | rfl | rfl | rfl <;> first | rfl | exact absurd rfl hn)
    show (if (3 = t ∧ ¬ (j < 0 ∨ 2 ≤ j.toNatClampNeg)) then _ else _) = (if t = 3 ∧ ¬ (j < 0 ∨ 2 ≤ j.toNatClampNeg) then _ else _ : Option twS).map _
    by_cases hc : t = 3 ∧ ¬ (j < 0 ∨ 2 ≤ j.toNatClampNeg)
    · rw [if_pos ⟨hc.1.symm, hc.2⟩, if_pos hc]
      obtain ⟨rfl, -⟩ := hc
      exact congrArg some k1
    · rw [if_neg (fun h => hc ⟨h.1.symm, h.2⟩), if_neg hc]
      rfl
  · have k1 := key (uAr s 3 (va_up (s.2.2.1 3) j.toNatClampNeg v)) (fun i hi hn => by rcases (show i = 0 ∨ i = 1 ∨ i = 2 ∨ i = 3 ∨ i = 4 ∨ i = 5 ∨ i = 6 ∨ i = 7 ∨ i = 8 ∨ i = 9 by omega) with rfl | rfl | rfl | rfl | rfl | rfl | rfl | rfl | rfl | rfl <;> first | rfl | exact absurd rfl hn)
    show (if (3 = t ∧ ¬ (j < 0 ∨ 900 ≤ j.toNatClampNeg)) then _ else _) = (if t = 3 ∧ ¬ (j < 0 ∨ 900 ≤ j.toNatClampNeg) then _ else _ : Option twS).map _
    by_cases hc : t = 3 ∧ ¬ (j < 0 ∨ 900 ≤ j.toNatClampNeg)
    · rw [if_pos ⟨hc.1.symm, hc.2⟩, if_pos hc]
      obtain ⟨rfl, -⟩ := hc
      exact congrArg some k1
    · rw [if_neg (fun h => hc ⟨h.1.symm, h.2⟩), if_neg hc]
      rfl
  · have k1 := key (uAr s 4 (va_up (s.2.2.1 4) j.toNatClampNeg v)) (fun i hi hn => by rcases (show i = 0 ∨ i = 1 ∨ i = 2 ∨ i = 3 ∨ i = 4 ∨ i = 5 ∨ i = 6 ∨ i = 7 ∨ i = 8 ∨ i = 9 by omega) with rfl | rfl | rfl | rfl | rfl | rfl | rfl | rfl | rfl | rfl <;> first | rfl | exact absurd rfl hn)
    show (if (3 = t ∧ ¬ (j < 0 ∨ 900 ≤ j.toNatClampNeg)) then _ else _) = (if t = 3 ∧ ¬ (j < 0 ∨ 900 ≤ j.toNatClampNeg) then _ else _ : Option twS).map _
    by_cases hc : t = 3 ∧ ¬ (j < 0 ∨ 900 ≤ j.toNatClampNeg)
    · rw [if_pos ⟨hc.1.symm, hc.2⟩, if_pos hc]
      obtain ⟨rfl, -⟩ := hc
      exact congrArg some k1
    · rw [if_neg (fun h => hc ⟨h.1.symm, h.2⟩), if_neg hc]
      rfl
  · have k1 := key (uAr s 6 (va_up (s.2.2.1 6) j.toNatClampNeg v)) (fun i hi hn => by rcases (show i = 0 ∨ i = 1 ∨ i = 2 ∨ i = 3 ∨ i = 4 ∨ i = 5 ∨ i = 6 ∨ i = 7 ∨ i = 8 ∨ i = 9 by omega) with rfl | rfl | rfl | rfl | rfl | rfl | rfl | rfl | rfl | rfl <;> first | rfl | exact absurd rfl hn)
    show (if (2 = t ∧ ¬ (j < 0 ∨ 300 ≤ j.toNatClampNeg)) then _ else _) = (if t = 2 ∧ ¬ (j < 0 ∨ 300 ≤ j.toNatClampNeg) then _ else _ : Option twS).map _
    by_cases hc : t = 2 ∧ ¬ (j < 0 ∨ 300 ≤ j.toNatClampNeg)
    · rw [if_pos ⟨hc.1.symm, hc.2⟩, if_pos hc]
      obtain ⟨rfl, -⟩ := hc
      exact congrArg some k1
    · rw [if_neg (fun h => hc ⟨h.1.symm, h.2⟩), if_neg hc]
      rfl
  · have k1 := key (uAr s 7 (va_up (s.2.2.1 7) j.toNatClampNeg v)) (fun i hi hn => by rcases (show i = 0 ∨ i = 1 ∨ i = 2 ∨ i = 3 ∨ i = 4 ∨ i = 5 ∨ i = 6 ∨ i = 7 ∨ i = 8 ∨ i = 9 by omega) with rfl | rfl | rfl | rfl | rfl | rfl | rfl | rfl | rfl | rfl <;> first | rfl | exact absurd rfl hn)
    show (if (2 = t ∧ ¬ (j < 0 ∨ 1500 ≤ j.toNatClampNeg)) then _ else _) = (if t = 2 ∧ ¬ (j < 0 ∨ 1500 ≤ j.toNatClampNeg) then _ else _ : Option twS).map _
    by_cases hc : t = 2 ∧ ¬ (j < 0 ∨ 1500 ≤ j.toNatClampNeg)
    · rw [if_pos ⟨hc.1.symm, hc.2⟩, if_pos hc]
      obtain ⟨rfl, -⟩ := hc
      exact congrArg some k1
    · rw [if_neg (fun h => hc ⟨h.1.symm, h.2⟩), if_neg hc]
      rfl
  · have k1 := key (uAr s 8 (va_up (s.2.2.1 8) j.toNatClampNeg v)) (fun i hi hn => by rcases (show i = 0 ∨ i = 1 ∨ i = 2 ∨ i = 3 ∨ i = 4 ∨ i = 5 ∨ i = 6 ∨ i = 7 ∨ i = 8 ∨ i = 9 by omega) with rfl | rfl | rfl | rfl | rfl | rfl | rfl | rfl | rfl | rfl <;> first | rfl | exact absurd rfl hn)
    show (if (0 = t ∧ ¬ (j < 0 ∨ 200 ≤ j.toNatClampNeg)) then _ else _) = (if t = 0 ∧ ¬ (j < 0 ∨ 200 ≤ j.toNatClampNeg) then _ else _ : Option twS).map _
    by_cases hc : t = 0 ∧ ¬ (j < 0 ∨ 200 ≤ j.toNatClampNeg)
    · rw [if_pos ⟨hc.1.symm, hc.2⟩, if_pos hc]
      obtain ⟨rfl, -⟩ := hc
      exact congrArg some k1
    · rw [if_neg (fun h => hc ⟨h.1.symm, h.2⟩), if_neg hc]
      rfl
  · have k1 := key (uAr s 9 (va_up (s.2.2.1 9) j.toNatClampNeg v)) (fun i hi hn => by rcases (show i = 0 ∨ i = 1 ∨ i = 2 ∨ i = 3 ∨ i = 4 ∨ i = 5 ∨ i = 6 ∨ i = 7 ∨ i = 8 ∨ i = 9 by omega) with rfl | rfl | rfl | rfl | rfl | rfl | rfl | rfl | rfl | rfl <;> first | rfl | exact absurd rfl hn)
    show (if (0 = t ∧ ¬ (j < 0 ∨ 200 ≤ j.toNatClampNeg)) then _ else _) = (if t = 0 ∧ ¬ (j < 0 ∨ 200 ≤ j.toNatClampNeg) then _ else _ : Option twS).map _
    by_cases hc : t = 0 ∧ ¬ (j < 0 ∨ 200 ≤ j.toNatClampNeg)
    · rw [if_pos ⟨hc.1.symm, hc.2⟩, if_pos hc]
      obtain ⟨rfl, -⟩ := hc
      exact congrArg some k1
    · rw [if_neg (fun h => hc ⟨h.1.symm, h.2⟩), if_neg hc]
      rfl
def zem {α : Type} (q : Nat) (g : zH) (z : α × twS) : α × zH := (z.1, tw z.2 q g)
theorem tb1 {α β : Type} {o : Option α} {v : α} {F : α → Option β} {r : Option β} (h : o = some v) (k : F v = r) : o.bind F = r := by rw [h]; exact k
theorem tb2 {α β γ : Type} {o o1 : Option α} {F : α → Option β} {G : α → Option γ} {e : γ → β} (h : o = o1) (k : ∀ x, F x = (G x).map e) : o.bind F = (o1.bind G).map e := by
  rw [h]
  cases o1 with
  | none => rfl
  | some x => exact k x
theorem tb4 {α δ β γ : Type} {o : Option α} {o1 : Option δ} {u : δ → α} {F : α → Option β} {G : δ → Option γ} {e : γ → β} (h : o = o1.map u) (k : ∀ x, F (u x) = (G x).map e) : o.bind F = (o1.bind G).map e := by
  rw [h]
  cases o1 with
  | none => rfl
  | some x => exact k x
theorem tb5 {α β γ : Type} {q : Nat} {g : zH} {o : Option (α × zH)} {o1 : Option (α × twS)} {F : α → zH → Option β} {G : α → twS → Option γ} {e : γ → β} (h : o = o1.map (zem q g)) (k : ∀ x s, F x (tw s q g) = (G x s).map e) : bnd2 o F = (bnd2 o1 G).map e := by
  rw [h]
  cases o1 with
  | none => rfl
  | some x => exact k x.1 x.2
theorem tb6 {β γ : Type} {c : Prop} {dc : Decidable c} {A B : Option β} {C D : Option γ} {e : γ → β} (k1 : A = C.map e) (k2 : B = D.map e) : (if c then A else B) = (if c then C else D).map e := by
  by_cases h : c
  · rw [if_pos h, if_pos h]; exact k1
  · rw [if_neg h, if_neg h]; exact k2
