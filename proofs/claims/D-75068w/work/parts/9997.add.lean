/-! lists: made, added to *(ArrayList)* -/
set_option maxRecDepth 100000
/-- a list with its room -/
def lsc (s : cT) (c r n : Nat) (el : Nat → Nat) : Prop := lst s c r n el ∧ ∃ m, s.1 r = (6, m) ∧ 1 ≤ m ∧ m ≤ 2 * n + 2
/-- an object (presented or raw) -/
def ob (H : zH) (a : Nat) : Prop := a < H.2.1 ∧ ∃ b x, H.1 a = some (b, .inr x)
theorem Kp_lt {p : cP} {s : cT} {g : zH} (h : Kp p s g) {c : Nat} (hc : (s.1 c).1 ≠ 0) : p.1 c < g.2.1 := Decidable.by_contra fun n => by
  have := h.1.1 c hc
  rw [h.2.1 _ (Nat.le_of_not_lt n)] at this
  cases this
theorem ob_sh {p : cP} {s : cT} {g : zH} (h : Kp p s g) {e ci : Nat} (he : s.1 e = (1, ci)) : ob (cH p s g) (p.1 e) := ⟨Kp_lt h (by rw [he]; exact Nat.succ_ne_zero _), true, _, (cH_at h.1 (by rw [he]; exact Nat.succ_ne_zero _)).trans (congrArg some (cC_obj he))⟩
theorem cC_in {ad : Nat → Nat} {s : cT} {c : Nat} : (∃ x, (cC ad s c).2 = .inr x) ↔ (s.1 c).1 < 2 := by
  unfold cC
  split
  · rename_i h; rw [h]; exact ⟨fun _ => by decide, fun _ => ⟨_, rfl⟩⟩
  · rename_i h; rw [h]; exact ⟨fun _ => by decide, fun _ => ⟨_, rfl⟩⟩
  · rename_i t h; rw [h]; exact ⟨fun q => (by obtain ⟨x, q⟩ := q; cases q), fun q => (by omega)⟩
theorem ob_cg {p : cP} {s s1 : cT} {g : zH} (h0 : s1.1 = s.1) {a : Nat} (h : ob (cH p s g) a) : ob (cH p s1 g) a := by
  obtain ⟨hl, b, x, hx⟩ := h
  refine ⟨hl, ?_⟩
  have hx : (match p.2 a with
    | some c => if (s.1 c).1 = 0 then g.1 a else some (cC p.1 s c)
    | none => g.1 a) = some (b, .inr x) := hx
  show ∃ b x, (match p.2 a with
    | some c => if (s1.1 c).1 = 0 then g.1 a else some (cC p.1 s1 c)
    | none => g.1 a) = some (b, .inr x)
  cases hp : p.2 a with
  | none => rw [hp] at hx; exact ⟨b, x, hx⟩
  | some d =>
    rw [hp] at hx
    have hx : (if (s.1 d).1 = 0 then g.1 a else some (cC p.1 s d)) = some (b, .inr x) := hx
    show ∃ b x, (if (s1.1 d).1 = 0 then g.1 a else some (cC p.1 s1 d)) = some (b, .inr x)
    rw [h0]
    by_cases e : (s.1 d).1 = 0
    · rw [if_pos e] at hx ⊢; exact ⟨b, x, hx⟩
    · rw [if_neg e] at hx ⊢
      have q : (s.1 d).1 < 2 := cC_in.mp ⟨x, by rw [Option.some.inj hx]⟩
      obtain ⟨y, hy⟩ := (cC_in (ad := p.1) (s := s1) (c := d)).mpr (by rw [h0]; exact q)
      exact ⟨_, y, congrArg some (Prod.ext rfl hy)⟩
theorem ob_n6 {p : cP} {s : cT} {g : zH} (hp : okP p s) {e : Nat} (h : ob (cH p s g) (p.1 e)) : (s.1 e).1 < 2 := Decidable.by_contra fun n => by
  obtain ⟨hl, b, x, hx⟩ := h
  have hz : (s.1 e).1 ≠ 0 := by omega
  rw [cH_at hp hz] at hx
  exact n (cC_in.mp ⟨x, by rw [Option.some.inj hx]⟩)
section AD
variable {p : cP} {s : cT} {g : zH}
theorem c_sR (hp : okP p s) {c e n : Nat} {j : Int32} (hc : s.1 c = (6, n)) (he : ob (cH p s g) (p.1 e)) (hj : ¬ (j < 0 ∨ n ≤ j.toNatClampNeg)) : sR (cH p s g) (p.1 c) j (p.1 e) = some (cH p (uR s c j.toNatClampNeg (some e)) g) := by
  have hz : (s.1 c).1 ≠ 0 := by rw [hc]; exact Nat.succ_ne_zero _
  obtain ⟨_, b, x, hx⟩ := he
  have hput := cH_put (g := g) (s1 := uR s c j.toNatClampNeg (some e)) hp hz rfl (fun d hd => cC_off rfl rfl rfl (cu_ne _ _ hd))
  rw [cC_arr (s := uR s c j.toNatClampNeg (some e)) (t := 4) (n := n) hc] at hput
  have e1 : cA p.1 (uR s c j.toNatClampNeg (some e)) c 4 = .inr (.inr (va_up (fun i => (s.2.2.2 c i).map p.1) j.toNatClampNeg (some (p.1 e)))) := congrArg (fun x => Sum.inr (Sum.inr x)) (cA_R p.1 s c j.toNatClampNeg (some e))
  rw [e1] at hput
  unfold sR
  rw [hx, cH_at hp hz, cC_arr (t := 4) hc]
  exact (if_pos ⟨rfl, hj⟩).trans (congrArg some hput)
/-- the array of a list is copied into a longer one -/
theorem J_grow (E : zE) (h : Kp p s g) {c r n m : Nat} {el : Nat → Nat} (hl : lst s c r n el) (hm : s.1 r = (6, m)) (hmn : m = n) (h1 : 1 ≤ m) (h2 : m < 100) (hob : ∀ i, i < n → ob (cH p s g) (p.1 (el i))) (hr : rm g 1 200) : ∃ k, m < k ∧ k ≤ 2 * m ∧ f_J2_grow E (p.1 c) (cH p s g) = some (g.2.1, cH p (uR s c 1 (some (XT + g.2.1))) (zadd g (true, .inl (4, k, .inr (.inr fun i => if i < n then some (p.1 (el i)) else none))) k)) := by
  obtain ⟨l1, l2, l3, l4, cap, l5, l6, l7⟩ := hl
  have hv := h.2.1 g.2.1 (Nat.le_refl _)
  have hrz : (s.1 r).1 ≠ 0 := by rw [hm]; exact Nat.succ_ne_zero _
  obtain ⟨w, hw1, hw2, hw3, hw4⟩ : ∃ w : Nat, (∀ h : zH, f_J11_newLength E (Int32.ofNat m) (Int32.ofNat m + 1 - Int32.ofNat m) (Int32.ofNat m >>> ((1 : Int32) &&& 31)) h = some (Int32.ofNat w, h)) ∧ m < w ∧ w ≤ 2 * m ∧ w < 2 ^ 31 := by
    have key : ∀ m : Nat, m < 100 → 1 ≤ m → ∃ w : Nat, w < 200 ∧ (if Int32.ofNat m + 1 - Int32.ofNat m < Int32.ofNat m >>> ((1 : Int32) &&& 31) then Int32.ofNat m + (Int32.ofNat m >>> ((1 : Int32) &&& 31)) else Int32.ofNat m + (Int32.ofNat m + 1 - Int32.ofNat m)) = Int32.ofNat w ∧ m < w ∧ w ≤ 2 * m := by
      intro m hm1 hm2
      refine ⟨(if Int32.ofNat m + 1 - Int32.ofNat m < Int32.ofNat m >>> ((1 : Int32) &&& 31) then Int32.ofNat m + (Int32.ofNat m >>> ((1 : Int32) &&& 31)) else Int32.ofNat m + (Int32.ofNat m + 1 - Int32.ofNat m)).toNatClampNeg, ?_⟩
      revert m
      decide +kernel
    obtain ⟨w, k0, k1, k2, k3⟩ := key m h2 h1
    refine ⟨w, fun hh => ?_, k2, k3, by omega⟩
    have fin : ∀ x : Int32, Int32.ofNat m + x = Int32.ofNat w → (if Int32.ofNat m + x ≤ (0 : Int32) then f_J11_newLength_b21 E (Int32.ofNat m) (Int32.ofNat m + 1 - Int32.ofNat m) hh else if (2147483639 : Int32) < Int32.ofNat m + x then f_J11_newLength_b21 E (Int32.ofNat m) (Int32.ofNat m + 1 - Int32.ofNat m) hh else some (Int32.ofNat m + x, hh)) = some (Int32.ofNat w, hh) := fun x hx => by
      rw [hx, if_neg (show ¬ Int32.ofNat w ≤ 0 from fun q => by rw [show (0 : Int32) = Int32.ofNat 0 from rfl, i32_le (by omega) (by decide)] at q; omega), if_neg (show ¬ (2147483639 : Int32) < Int32.ofNat w from fun q => by rw [show (2147483639 : Int32) = Int32.ofNat 2147483639 from rfl, i32_lt (by decide) (by omega)] at q; omega)]
    unfold f_J11_newLength f_J11_newLength_b0 f_J12_max f_J12_max_b0 f_J12_max_b10
    by_cases q : Int32.ofNat m + 1 - Int32.ofNat m < Int32.ofNat m >>> ((1 : Int32) &&& 31)
    · rw [if_pos q] at k1 ⊢
      rw [b2_some]
      exact fin _ k1
    · rw [if_neg q] at k1 ⊢
      rw [b2_some]
      exact fin _ k1
  refine ⟨w, hw2, hw3, ?_⟩
  have ecap : cap = m := by rw [hm] at l5; cases l5; rfl
  have en : Int32.ofNat n = Int32.ofNat m := by rw [hmn]
  unfold f_J2_grow f_J2_grow_b0 f_J2_grow_2 f_J2_grow_2_b0 f_J2_grow_2_b20
  rw [c_gI h.1 l1 rfl, l3, b1_some, c_cko h.1 l1, b1_some, c_gR h.1 l1 rfl l2, b1_some, c_len h.1 (t := 4) hm, b1_some, if_pos (show (0 : Int32) < Int32.ofNat m from by rw [show (0 : Int32) = Int32.ofNat 0 from rfl, i32_lt (by decide) (by omega)]; omega), en, hw1, b2_some, c_gR h.1 l1 rfl l2, b1_some]
  have hcka : cka (cH p s g) (p.1 r) 4 = some () := by
    unfold cka isA
    rw [cH_at h.1 hrz, cC_arr (t := 4) hm]
    rfl
  have hnA : nA (cH p s g) 4 (Int32.ofNat w) (.inr (.inr fun _ => none)) = some (g.2.1, cH p s (zadd g (true, .inl (4, w, .inr (.inr fun _ => none))) w)) := by
    unfold nA
    show (if ¬ Int32.ofNat w < 0 ∧ (Int32.ofNat w).toNatClampNeg ≤ 67108864 ∧ 1 ≤ g.2.2.1 ∧ (Int32.ofNat w).toNatClampNeg ≤ g.2.2.2 then some (g.2.1, zadd (cH p s g) (true, .inl (4, (Int32.ofNat w).toNatClampNeg, .inr (.inr fun _ => none))) (Int32.ofNat w).toNatClampNeg) else none) = _
    rw [nat_clamp (by omega), if_pos ⟨i32_nneg (by omega), by omega, hr.1, by have := hr.2; omega⟩, r_add hv]
  have hmin : ∀ hh : zH, f_J12_min E (Int32.ofNat m) (Int32.ofNat w) hh = some (Int32.ofNat m, hh) := fun hh => by
    unfold f_J12_min f_J12_min_b0 f_J12_min_b10
    rw [if_neg (fun q => by rw [i32_lt (by omega) (by omega)] at q; omega)]
  generalize hg1 : zadd g (true, .inl (4, w, .inr (.inr fun _ => none))) w = g1 at hnA
  have g1v : g1.1 g.2.1 = some (true, .inl (4, w, .inr (.inr fun _ => none))) := by rw [← hg1]; exact cu_same _ _ _
  have hall : (List.range m).all (fun i => okV (cH p s g1) 4 (zv (.inr (.inr fun j => (s.2.2.2 r j).map p.1)) (0 + i))) = true := by
    rw [List.all_eq_true]
    intro i hi
    have hi := List.mem_range.mp hi
    obtain ⟨hl, b, x, hx⟩ := hob i (by omega)
    have hx1 : (cH p s g1).1 (p.1 (el i)) = some (b, .inr x) := by
      rw [← hg1, ← r_add hv]
      show va_up (cH p s g).1 g.2.1 _ (p.1 (el i)) = _
      rw [cu_ne _ _ (show p.1 (el i) ≠ g.2.1 from Nat.ne_of_lt hl)]
      exact hx
    show okV (cH p s g1) 4 (va_rf ((s.2.2.2 r (0 + i)).map p.1)) = true
    rw [Nat.zero_add, l7 i (by omega)]
    obtain ⟨c9, fs⟩ := x
    show (match (cH p s g1).1 (p.1 (el i)) with
      | some (b, .inr (c, _)) => 4 == 4 || (4 == 6 && c == 4)
      | some (true, .inl (t', _)) => 4 == 5 && t' == 1
      | _ => false) = true
    rw [hx1]
    rfl
  have hfun : va_cpy (fun j => (s.2.2.2 r j).map p.1) (fun _ => none) 0 0 m = fun i => if i < n then some (p.1 (el i)) else none := funext fun i => by
    unfold va_cpy
    by_cases q : i < n
    · rw [if_pos (by omega), if_pos q]
      show (s.2.2.2 r (0 + (i - 0))).map p.1 = _
      rw [show 0 + (i - 0) = i by omega, l7 i q]
      rfl
    · rw [if_neg (by omega), if_neg q]
  have hcp : cpA (cH p s g1) (p.1 r) (0 : Int32) g.2.1 (0 : Int32) (Int32.ofNat m) = some (cH p s (zup g1 g.2.1 (true, .inl (4, w, .inr (.inr fun i => if i < n then some (p.1 (el i)) else none))))) := by
    unfold cpA
    rw [cH_at h.1 hrz, cC_arr (t := 4) hm, cH_raw hv, g1v]
    show (if 4 = 4 ∧ ¬ (0 : Int32) < 0 ∧ ¬ (0 : Int32) < 0 ∧ ¬ Int32.ofNat m < 0 ∧ (0 : Int32).toNatClampNeg + (Int32.ofNat m).toNatClampNeg ≤ m ∧ (0 : Int32).toNatClampNeg + (Int32.ofNat m).toNatClampNeg ≤ w ∧ (List.range (Int32.ofNat m).toNatClampNeg).all (fun i => okV (cH p s g1) 4 (zv (.inr (.inr fun j => (s.2.2.2 r j).map p.1)) ((0 : Int32).toNatClampNeg + i))) = true then (zCpy (.inr (.inr fun j => (s.2.2.2 r j).map p.1)) (.inr (.inr fun _ => none)) (0 : Int32).toNatClampNeg (0 : Int32).toNatClampNeg (Int32.ofNat m).toNatClampNeg).map (fun x => zup (cH p s g1) g.2.1 (true, .inl (4, w, x))) else none) = _
    have hcd : 4 = 4 ∧ ¬ (0 : Int32) < 0 ∧ ¬ (0 : Int32) < 0 ∧ ¬ Int32.ofNat m < 0 ∧ 0 + m ≤ m ∧ 0 + m ≤ w ∧ (List.range m).all (fun i => okV (cH p s g1) 4 (zv (.inr (.inr fun j => (s.2.2.2 r j).map p.1)) (0 + i))) = true := ⟨rfl, by decide, by decide, i32_nneg (by omega), by omega, by omega, hall⟩
    rw [nat_clamp (by omega), show (0 : Int32).toNatClampNeg = 0 by decide]
    refine (if_pos hcd).trans ?_
    show some (zup (cH p s g1) g.2.1 (true, .inl (4, w, .inr (.inr (va_cpy (fun j => (s.2.2.2 r j).map p.1) (fun _ => none) 0 0 m))))) = _
    rw [hfun, r_up hv]
  have hpR := c_pR (p := p) (s := s) (g := zup g1 g.2.1 (true, .inl (4, w, .inr (.inr fun i => if i < n then some (p.1 (el i)) else none)))) (d := XT + g.2.1) (k := 1) h.1 l1 rfl
  rw [h.2.2.1 g.2.1] at hpR
  unfold f_J13_copyOf_2 f_J13_copyOf_2_b0 f_J13_copyOf_3 f_J13_copyOf_3_b0 f_J13_copyOf_3_b24
  rw [hcka, b1_some, if_pos rfl, hnA, b2_some, c_len h.1 (t := 4) hm, b1_some, hmin, b2_some, hcp, b1_some, b2_some, b2_some, hpR, b1_some, b2_some]
  refine congrArg (fun x => some (g.2.1, cH p (uR s c 1 (some (XT + g.2.1))) x)) ?_
  rw [← hg1]
  refine Prod.ext (funext fun a => ?_) rfl
  show va_up (va_up g.1 g.2.1 _) g.2.1 _ a = va_up g.1 g.2.1 _ a
  by_cases e : a = g.2.1
  · rw [e, cu_same, cu_same]
  · rw [cu_ne _ _ e, cu_ne _ _ e, cu_ne _ _ e]
/-- what adding to a list does -/
def addS (p : cP) (s : cT) (g : zH) (c r n e : Nat) (el : Nat → Nat) (p1 : cP) (s1 : cT) (g1 : zH) : Prop := Kp p1 s1 g1 ∧ lsc s1 c r (n + 1) (fun i => if i = n then e else el i) ∧ (∀ d, d ≠ r → p1.1 d = p.1 d ∧ s1.1 d = s.1 d ∧ s1.2.2.2 d = s.2.2.2 d) ∧ (∀ d, d ≠ c → s1.2.1 d = s.2.1 d) ∧ s1.2.2.1 = s.2.2.1 ∧ (∀ b, b < g.2.1 → p.2 b = none → p1.2 b = none ∧ g1.1 b = g.1 b) ∧ g.2.1 ≤ g1.2.1 ∧ g.2.2.1 ≤ g1.2.2.1 + 1 ∧ g.2.2.2 ≤ g1.2.2.2 + 200
theorem J_add (E : zE) (h : Kp p s g) {c r n e : Nat} {el : Nat → Nat} (hl : lsc s c r n el) (hcx : c < XT) (hrx : r < XT) (hn : n < 48) (he : ob (cH p s g) (p.1 e)) (hez : (s.1 e).1 ≠ 0 ∨ XT ≤ e) (hob : ∀ i, i < n → ob (cH p s g) (p.1 (el i))) (hr : rm g 1 200) : ∃ p1 s1 g1, f_J2_add E (p.1 c) (p.1 e) (cH p s g) = some ((1 : Int32), cH p1 s1 g1) ∧ addS p s g c r n e el p1 s1 g1 := by
  obtain ⟨⟨l1, l2, l3, l4, cap, l5, l6, l7⟩, m, m1, m2, m3⟩ := hl
  have ecap : cap = m := by rw [m1] at l5; cases l5; rfl
  subst ecap
  have ncr : c ≠ r := fun q => by rw [q, m1] at l1; cases l1
  have hrz : (s.1 r).1 ≠ 0 := by rw [m1]; exact Nat.succ_ne_zero _
  have hcz : (s.1 c).1 ≠ 0 := by rw [l1]; exact Nat.succ_ne_zero _
  have e6 : (s.1 e).1 ≠ 6 := by have := ob_n6 h.1 he; omega
  generalize hs1 : uI s c 0 (s.2.1 c 0 + 1) = s1
  have a0 : s1.1 = s.1 := by rw [← hs1]; rfl
  have aR : s1.2.2.2 = s.2.2.2 := by rw [← hs1]; rfl
  have aL : s1.2.2.1 = s.2.2.1 := by rw [← hs1]; rfl
  have aI : s1.2.1 c 2 = Int32.ofNat n := by rw [← hs1, uI_ne _ _ (Or.inr (by decide))]; exact l3
  have aO : ∀ d, d ≠ c → s1.2.1 d = s.2.1 d := fun d hd => by rw [← hs1]; exact uI_row s hd _ _
  have h1 : Kp p s1 g := by rw [← hs1]; exact Kp_uI h _ _ _
  have p0 : pF (cH p s g) (p.1 c) 15 0 (.int (s.2.1 c 0 + 1)) = some (cH p s1 g) := by rw [← hs1]; exact c_pI h.1 l1 rfl
  have l1' : s1.1 c = (1, 15) := by rw [a0]; exact l1
  have m1' : s1.1 r = (6, cap) := by rw [a0]; exact m1
  unfold f_J2_add f_J2_add_b0 f_J2_add_2 f_J2_add_2_b0
  rw [c_gI h.1 l1 rfl, b1_some, p0, b1_some, c_gR h1.1 l1' rfl (by rw [aR]; exact l2), b1_some, c_gI h1.1 l1' rfl, aI, b1_some, c_cko h1.1 l1', b1_some, c_len h1.1 (t := 4) m1', b1_some]
  by_cases q : n = cap
  · rw [if_pos (by rw [q]), b1_some]
    obtain ⟨k, k1, k2, k3⟩ := J_grow E h1 (c := c) (r := r) (n := n) (m := cap) (el := el) ⟨l1', by rw [aR]; exact l2, aI, l4, cap, m1', l6, fun i hi => by rw [aR]; exact l7 i hi⟩ m1' q.symm m2 (by omega) (fun i hi => ob_cg a0 (hob i hi)) hr
    have hv := h.2.1 g.2.1 (Nat.le_refl _)
    rw [k3, b2_some]
    generalize hg2 : zadd g (true, .inl (4, k, .inr (.inr fun i => if i < n then some (p.1 (el i)) else none))) k = g2
    have g2v : g2.1 g.2.1 = some (true, .inl (4, k, .inr (.inr fun i => if i < n then some (p.1 (el i)) else none))) := by rw [← hg2]; exact cu_same _ _ _
    have g2o : ∀ b, b ≠ g.2.1 → g2.1 b = g.1 b := fun b hb => by rw [← hg2]; exact cu_ne g.1 _ hb
    have g2s : g2.2 = (g.2.1 + 1, (g.2.2.1 - 1, g.2.2.2 - k)) := by rw [← hg2]; rfl
    have hX3 := (h.2.2.2.2.2.2 (XT + g.2.1) (Nat.le_add_right _ _)).1
    have h2 : Kp p (uR s1 c 1 (some (XT + g.2.1))) g2 := Kp_uR (Kp_g h1 (by rw [g2s]; exact Nat.le_succ _)) hcx 1 (fun x hx => by
      cases hx
      refine ⟨Or.inr (Nat.le_add_right _ _), fun q6 => ?_⟩
      rw [a0] at q6
      omega)
    generalize hs2 : uR s1 c 1 (some (XT + g.2.1)) = s2 at h2
    have b0 : s2.1 = s.1 := by rw [← hs2]; exact a0
    have bI : s2.2.1 = s1.2.1 := by rw [← hs2]; rfl
    have bL : s2.2.2.1 = s.2.2.1 := by rw [← hs2]; exact aL
    have bR : s2.2.2.2 c 1 = some (XT + g.2.1) := by rw [← hs2]; exact uR_s _ _ _ _
    have bO : ∀ d k, ¬ (d = c ∧ k = 1) → s2.2.2.2 d k = s.2.2.2 d k := fun d k hd => by rw [← hs2, uR_ne _ _ (by omega), aR]
    have hob2 : ob (cH p s2 g2) (p.1 e) := by
      obtain ⟨hlt, b, x, hx⟩ := ob_cg (s1 := s2) b0 he
      refine ⟨by rw [show (cH p s2 g2).2 = g2.2 from rfl, g2s]; exact Nat.lt_succ_of_lt hlt, b, x, ?_⟩
      have e9 : (cH p s2 g2).1 (p.1 e) = (cH p s2 g).1 (p.1 e) := by
        rw [← hg2, ← r_add hv]
        exact cu_ne _ _ (show p.1 e ≠ g.2.1 from Nat.ne_of_lt hlt)
      rw [e9]
      exact hx
    unfold f_J2_add_2_b11
    have hsR : sR (cH p s2 g2) g.2.1 (Int32.ofNat n) (p.1 e) = some (cH p s2 (zup g2 g.2.1 (true, .inl (4, k, .inr (.inr (va_up (fun i => if i < n then some (p.1 (el i)) else none) n (some (p.1 e)))))))) := by
      obtain ⟨hlt, b, x, hx⟩ := hob2
      unfold sR
      rw [hx, cH_raw hv, g2v]
      show (if 4 = 4 ∧ ¬ (Int32.ofNat n < 0 ∨ k ≤ (Int32.ofNat n).toNatClampNeg) then some (zup (cH p s2 g2) g.2.1 (true, .inl (4, k, .inr (.inr (va_up (fun i => if i < n then some (p.1 (el i)) else none) (Int32.ofNat n).toNatClampNeg (some (p.1 e))))))) else none) = _
      rw [nat_clamp (by omega), if_pos ⟨rfl, fun q => q.elim (i32_nneg (by omega)) (by omega)⟩, r_up hv]
    rw [hsR, b1_some]
    generalize hg3 : zup g2 g.2.1 (true, .inl (4, k, .inr (.inr (va_up (fun i => if i < n then some (p.1 (el i)) else none) n (some (p.1 e)))))) = g3
    have g3v : g3.1 g.2.1 = some (true, .inl (4, k, .inr (.inr (va_up (fun i => if i < n then some (p.1 (el i)) else none) n (some (p.1 e)))))) := by rw [← hg3]; exact cu_same _ _ _
    have g3o : ∀ b, b ≠ g.2.1 → g3.1 b = g.1 b := fun b hb => by rw [← hg3]; exact (cu_ne g2.1 _ hb).trans (g2o b hb)
    have g3s : g3.2 = g2.2 := by rw [← hg3]; rfl
    have h3 : Kp p (uI s2 c 2 (Int32.ofNat n + 1)) g3 := Kp_uI (Kp_g h2 (by rw [g3s]; exact Nat.le_refl _)) _ _ _
    rw [c_pI h2.1 (by rw [b0]; exact l1) rfl, b1_some, b2_some]
    generalize hs3 : uI s2 c 2 (Int32.ofNat n + 1) = s3 at h3
    have c0 : s3.1 = s.1 := by rw [← hs3]; exact b0
    have cR : s3.2.2.2 = s2.2.2.2 := by rw [← hs3]; rfl
    have cI : s3.2.1 c 2 = Int32.ofNat (n + 1) := by rw [← hs3, uI_s, i32_s]
    have cO : ∀ d, d ≠ c → s3.2.1 d = s.2.1 d := fun d hd => by rw [← hs3, uI_row _ hd, bI]; exact aO d hd
    have cL : s3.2.2.1 = s.2.2.1 := by rw [← hs3]; exact bL
    have hM := K_map (p := p) (s := s3) (g := g3) h3 (c := c) (r := r) (v := g.2.1) (n := k) (m := cap) (T := fun i => if i = n then some e else if i < n then some (el i) else none) (by rw [c0]; exact l1) hcx (by rw [c0]; exact m1) hrx (by rw [cR]; exact bR) (fun d j hd hj => by
      rw [c0] at hd
      rw [cR] at hj
      by_cases w : d = c ∧ j = 1
      · rw [w.1, w.2, bR] at hj
        have := Option.some.inj hj
        omega
      · rw [bO d j w] at hj
        exact w (h.2.2.2.2.2.1 r d j c 1 (by rw [m1]) hd hcz hj l2)) hv (by rw [g3s, g2s]; exact Nat.lt_succ_self _) (by
      rw [g3v]
      refine congrArg (fun x => some (true, Sum.inl (4, k, Sum.inr (Sum.inr x)))) (funext fun i => ?_)
      by_cases w : i = n
      · rw [w, cu_same, if_pos rfl]; rfl
      · rw [cu_ne _ _ w, if_neg w]
        by_cases w2 : i < n
        · rw [if_pos w2, if_pos w2]; rfl
        · rw [if_neg w2, if_neg w2]; rfl) (fun i x hx => by
      rw [c0]
      have hx : (if i = n then some e else if i < n then some (el i) else none) = some x := hx
      by_cases w : i = n
      · rw [if_pos w] at hx; cases hx; exact ⟨hez, e6⟩
      · rw [if_neg w] at hx
        by_cases w2 : i < n
        · rw [if_pos w2] at hx; cases hx
          exact ⟨h.2.2.2.2.1 r i _ hrz (l7 i w2), by have := ob_n6 h.1 (hob i w2); omega⟩
        · rw [if_neg w2] at hx; cases hx)
    refine ⟨pM p r g.2.1, sM s3 c r k (fun i => if i = n then some e else if i < n then some (el i) else none), cH p s3 g3, by rw [hM.1], hM.2, ⟨⟨?_, ?_, cI, by omega, k, cu_same _ _ _, by omega, fun i hi => ?_⟩, k, cu_same _ _ _, by omega, by omega⟩, fun d hd => ⟨cu_ne p.1 _ hd, (cu_ne s3.1 _ hd).trans (by rw [c0]), ?_⟩, cO, cL, fun b hb hbn => ⟨?_, ?_⟩, ?_, ?_, ?_⟩
    · rw [show (sM s3 c r k (fun i => if i = n then some e else if i < n then some (el i) else none)).1 c = s3.1 c from cu_ne s3.1 _ ncr, c0]; exact l1
    · rw [show (sM s3 c r k (fun i => if i = n then some e else if i < n then some (el i) else none)).2.2.2 c = (uR s3 c 1 (some r)).2.2.2 c from cu_ne _ _ ncr, uR_s]
    · rw [show (sM s3 c r k (fun i => if i = n then some e else if i < n then some (el i) else none)).2.2.2 r = (fun i => if i = n then some e else if i < n then some (el i) else none) from cu_same _ _ _]
      show (if i = n then some e else if i < n then some (el i) else none) = some (if i = n then e else el i)
      by_cases w : i = n
      · rw [if_pos w, if_pos w]
      · rw [if_neg w, if_neg w, if_pos (by omega)]
    · rw [show (sM s3 c r k (fun i => if i = n then some e else if i < n then some (el i) else none)).2.2.2 d = (uR s3 c 1 (some r)).2.2.2 d from cu_ne _ _ hd]
      funext j
      by_cases w : d = c ∧ j = 1
      · rw [w.1, w.2, uR_s, l2]
      · rw [uR_ne _ _ (by omega), cR, bO d j w]
    · show (if b = g.2.1 then some r else if b = p.1 r then none else p.2 b) = none
      rw [if_neg (by omega), hbn]
      split <;> rfl
    · rw [cH_raw hbn]; exact g3o b (by omega)
    · show g.2.1 ≤ g3.2.1
      rw [g3s, g2s]; exact Nat.le_succ _
    · show g.2.2.1 ≤ g3.2.2.1 + 1
      rw [g3s, g2s]
      show g.2.2.1 ≤ g.2.2.1 - 1 + 1
      omega
    · show g.2.2.2 ≤ g3.2.2.2 + 200
      rw [g3s, g2s]
      show g.2.2.2 ≤ g.2.2.2 - k + 200
      omega
  · rw [if_neg (fun w => q ((i32_eq (by omega) (by omega)).mp w))]
    unfold f_J2_add_2_b11
    have hsR := c_sR (p := p) (s := s1) (g := g) (c := r) (e := e) (j := Int32.ofNat n) h1.1 m1' (ob_cg a0 he) (by rw [nat_clamp (by omega)]; exact fun w => w.elim (i32_nneg (by omega)) (by omega))
    rw [nat_clamp (by omega)] at hsR
    rw [hsR, b1_some]
    have h2 : Kp p (uR s1 r n (some e)) g := Kp_uR h1 hrx n (fun x hx => by
      cases hx
      exact ⟨by rw [a0]; exact hez, fun w => absurd (by rw [a0] at w; exact w) e6⟩)
    rw [c_pI h2.1 (by rw [show (uR s1 r n (some e)).1 = s1.1 from rfl]; exact l1') rfl, b1_some, b2_some]
    refine ⟨p, uI (uR s1 r n (some e)) c 2 (Int32.ofNat n + 1), g, rfl, Kp_uI h2 _ _ _, ⟨⟨l1', ?_, ?_, by omega, cap, m1', by omega, fun i hi => ?_⟩, cap, m1', m2, by omega⟩, fun d hd => ⟨rfl, by rw [← a0]; rfl, ?_⟩, fun d hd => ?_, aL, fun b hb hbn => ⟨hbn, rfl⟩, Nat.le_refl _, Nat.le_succ _, Nat.le_add_right _ _⟩
    · show (uR s1 r n (some e)).2.2.2 c 1 = some r
      rw [uR_ne _ _ (Or.inl ncr), aR]; exact l2
    · rw [uI_s, i32_s]
    · show (uR s1 r n (some e)).2.2.2 r i = some (if i = n then e else el i)
      by_cases w : i = n
      · rw [if_pos w, w, uR_s]
      · rw [if_neg w, uR_ne _ _ (Or.inr w), aR]; exact l7 i (by omega)
    · funext j
      show (uR s1 r n (some e)).2.2.2 d j = _
      rw [uR_ne _ _ (Or.inl hd), aR]
    · exact (uI_row _ hd _ _).trans (aO d hd)
end AD
