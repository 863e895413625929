/-! connectedness: the queue and the sweeps reach the same cells -/
set_option maxRecDepth 100000
/-- next to each other -/
def adj (a b : Nat) : Prop := ∃ k, k < 4 ∧ nbr a k = b ∧ b < 900
theorem adj_sym {a b : Nat} (ha : a < 900) (h : adj a b) : adj b a := by
  obtain ⟨k, hk, e, hb⟩ := h
  rcases (show k = 0 ∨ k = 1 ∨ k = 2 ∨ k = 3 by omega) with rfl | rfl | rfl | rfl
  · have e2 : (if a % 30 < 29 then a + 1 else 900) = b := e
    split at e2
    · refine ⟨1, by decide, ?_, ha⟩
      show (if 0 < b % 30 then b - 1 else 900) = a
      rw [if_pos (by omega)]; omega
    · omega
  · have e2 : (if 0 < a % 30 then a - 1 else 900) = b := e
    split at e2
    · refine ⟨0, by decide, ?_, ha⟩
      show (if b % 30 < 29 then b + 1 else 900) = a
      rw [if_pos (by omega)]; omega
    · omega
  · have e2 : (if a / 30 < 29 then a + 30 else 900) = b := e
    split at e2
    · refine ⟨3, by decide, ?_, ha⟩
      show (if 0 < b / 30 then b - 30 else 900) = a
      rw [if_pos (by omega)]; omega
    · omega
  · have e2 : (if 0 < a / 30 then a - 30 else 900) = b := e
    split at e2
    · refine ⟨2, by decide, ?_, ha⟩
      show (if b / 30 < 29 then b + 30 else 900) = a
      rw [if_pos (by omega)]; omega
    · omega
/-- what can be reached from x0 within O -/
def rch (O : Nat → Prop) (x0 c : Nat) : Prop := ∀ S : Nat → Prop, S x0 → (∀ a b, S a → O a → O b → adj a b → S b) → S c
theorem rch0 (O : Nat → Prop) (x0 : Nat) : rch O x0 x0 := fun _ h _ => h
theorem rch_s {O : Nat → Prop} {x0 a b : Nat} (h : rch O x0 a) (ha : O a) (hb : O b) (hab : adj a b) : rch O x0 b := fun S h0 hs => hs a b (h S h0 hs) ha hb hab
theorem rch_O {O : Nat → Prop} {x0 c : Nat} (h0 : O x0) (h : rch O x0 c) : O c := h O h0 (fun _ b _ _ hb _ => hb)
/-- a closed set of reachable cells is all of them -/
theorem rch_all {O M : Nat → Prop} {x0 : Nat} (h0 : M x0) (hM : ∀ c, M c → rch O x0 c) (hc : ∀ a b, M a → O a → O b → adj a b → M b) (c : Nat) : M c ↔ rch O x0 c := ⟨hM c, fun h => h M h0 hc⟩
/-- the first cell of a territory; 900 for none -/
noncomputable def fst9 (s : cT) (o : Nat) (f : Int32) : Nat := @dite _ (∃ c, c < 900 ∧ s.2.1 (o + 16) c = f ∧ ∀ d, d < c → ¬ s.2.1 (o + 16) d = f) (Classical.propDecidable _) (fun h => Classical.choose h) (fun _ => 900)
theorem fst9_of {s : cT} {o : Nat} {f : Int32} {c : Nat} (hc : c < 900) (h : s.2.1 (o + 16) c = f) (hd : ∀ d, d < c → ¬ s.2.1 (o + 16) d = f) : fst9 s o f = c := by
  have hx : ∃ c, c < 900 ∧ s.2.1 (o + 16) c = f ∧ ∀ d, d < c → ¬ s.2.1 (o + 16) d = f := ⟨c, hc, h, hd⟩
  have e : fst9 s o f = Classical.choose hx := dif_pos hx
  rw [e]
  obtain ⟨q1, q2, q3⟩ := Classical.choose_spec hx
  by_cases l : Classical.choose hx < c
  · exact absurd q2 (hd _ l)
  · by_cases l2 : c < Classical.choose hx
    · exact absurd h (q3 c l2)
    · omega
theorem fst9_no {s : cT} {o : Nat} {f : Int32} (hd : ∀ d, d < 900 → ¬ s.2.1 (o + 16) d = f) : fst9 s o f = 900 := dif_neg (fun h => by
  obtain ⟨c, hc, h1, _⟩ := h
  exact hd c hc h1)
def ownd (s : cT) (o : Nat) (f : Int32) (c : Nat) : Prop := c < 900 ∧ s.2.1 (o + 16) c = f
/-- the territory is connected -/
def CN (s : cT) (o : Nat) (f : Int32) : Prop := fst9 s o f < 900 ∧ cnt (rch (ownd s o f) (fst9 s o f)) 900 = cnt (ownd s o f) 900
theorem sm_own (s : cT) (o : Nat) (f : Int32) : sm (fun c => bi (s.2.1 (o + 16) c = f)) 900 = Int32.ofNat (cnt (ownd s o f) 900) := by
  rw [sm_bi]
  congr 1
  exact cnt_cg fun i hi => ⟨fun k => ⟨hi, k⟩, fun k => k.2⟩
section LC
variable {E : zE} {N : iN} {s : cT} {g : zH}
theorem x_first (hE : 1000 ≤ E.1) (f : Int32) : c_X5_first E N f s g = some (enb (fst9 s N.1 f), (s, g)) := by
  rw [← w_eq]
  unfold c_X5_first c_X5_first_b0
  refine w_lp (σ := Unit) (L := fun m i a => c_X5_first_l2 E N m f i s g) (n := 900) (by decide) (Inv := fun j a => ∀ d, d < j → ¬ s.2.1 (N.1 + 16) d = f) (fun m j a hj ha k => ?_) (fun m a ha => ?_) 900 0 E.1 () rfl (by omega) (fun d hd => by omega)
  · show Ww (c_X5_first_l2 E N (m + 1) f (Int32.ofNat j) s g) _
    unfold c_X5_first_l2
    rw [if_neg (le900 hj), cdI_of hj (by decide), b1_some, i32_s]
    by_cases h : s.2.1 (N.1 + 16) j = f
    · rw [if_pos h, w_some, fst9_of hj h ha, enb_n (by omega)]
    · rw [if_neg h]
      exact k () (fun d hd => by
        by_cases e : d = j
        · subst e; exact h
        · exact ha d (by omega))
  · show Ww (c_X5_first_l2 E N (m + 1) f (Int32.ofNat 900) s g) _
    unfold c_X5_first_l2
    rw [if_pos (re900), w_some, fst9_no ha]
    rfl
/-- s1 is s but for the marks and the queue -/
def okQ (N : iN) (s s1 : cT) : Prop := s1.1 = s.1 ∧ s1.2.2 = s.2.2 ∧ ∀ c, c ≠ N.1 + 17 → c ≠ N.1 + 18 → s1.2.1 c = s.2.1 c
theorem okQ_I {N : iN} {s s1 : cT} (h : okQ N s s1) {c : Nat} (hc : c = N.1 + 17 ∨ c = N.1 + 18) (k : Nat) (v : Int32) : okQ N s (uI s1 c k v) := ⟨h.1, h.2.1, fun d h1 h2 => (cu_ne s1.2.1 _ (by omega)).trans (h.2.2 d h1 h2)⟩
/-- marks, queue: cn cells were found -/
def bfs (N : iN) (s : cT) (f : Int32) (x0 : Nat) (s1 : cT) (cn : Nat) : Prop := okQ N s s1 ∧ cn ≤ 900 ∧ cnt (fun c => c < 900 ∧ s1.2.1 (N.1 + 18) c ≠ 0) 900 = cn ∧ (∀ i, i < cn → ∃ c, c < 900 ∧ s1.2.1 (N.1 + 17) i = Int32.ofNat c ∧ s1.2.1 (N.1 + 18) c ≠ 0) ∧ (∀ c, c < 900 → s1.2.1 (N.1 + 18) c ≠ 0 → ∃ i, i < cn ∧ s1.2.1 (N.1 + 17) i = Int32.ofNat c) ∧ s1.2.1 (N.1 + 18) x0 ≠ 0 ∧ ∀ c, c < 900 → s1.2.1 (N.1 + 18) c ≠ 0 → rch (ownd s N.1 f) x0 c
/-- all neighbours of the i-th found, of the sides below q, are marked -/
def bdn (N : iN) (s : cT) (f : Int32) (s1 : cT) (i q : Nat) : Prop := ∀ c, c < 900 → s1.2.1 (N.1 + 17) i = Int32.ofNat c → ∀ k, k < q → ownd s N.1 f (nbr c k) → s1.2.1 (N.1 + 18) (nbr c k) ≠ 0
end LC
