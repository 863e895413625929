/-! making things, step by step *(Tr: what was there stays; k cells, m slots were used)* -/
set_option maxRecDepth 100000
def Tr (p0 : cP) (g0 : zH) (p : cP) (s : cT) (g : zH) (k m : Nat) : Prop := Kp p s g ∧ (∀ b, b < g0.2.1 → p0.2 b = none → p.2 b = none ∧ g.1 b = g0.1 b) ∧ g0.2.1 ≤ g.2.1 ∧ g0.2.2.1 ≤ g.2.2.1 + k ∧ g0.2.2.2 ≤ g.2.2.2 + m
theorem sNw_1 (s : cT) (c : Nat) (sh : Nat × Nat) (d : Nat) : (sNw s c sh).1 d = if d = c then sh else s.1 d := rfl
theorem sNw_I (s : cT) (c : Nat) (sh : Nat × Nat) (d k : Nat) : (sNw s c sh).2.1 d k = if d = c then 0 else s.2.1 d k := by
  by_cases h : d = c
  · rw [if_pos h, h, (sNw_s s c sh).2.1]
  · rw [if_neg h, (sNw_o s h sh).2.1]
theorem sNw_L (s : cT) (c : Nat) (sh : Nat × Nat) (d k : Nat) : (sNw s c sh).2.2.1 d k = if d = c then 0 else s.2.2.1 d k := by
  by_cases h : d = c
  · rw [if_pos h, h, (sNw_s s c sh).2.2.1]
  · rw [if_neg h, (sNw_o s h sh).2.2.1]
theorem sNw_R (s : cT) (c : Nat) (sh : Nat × Nat) (d k : Nat) : (sNw s c sh).2.2.2 d k = if d = c then none else s.2.2.2 d k := by
  by_cases h : d = c
  · rw [if_pos h, h, (sNw_s s c sh).2.2.2]
  · rw [if_neg h, (sNw_o s h sh).2.2.2]
theorem uR_app (s : cT) (c k : Nat) (v : Option Nat) (d q : Nat) : (uR s c k v).2.2.2 d q = if d = c ∧ q = k then v else s.2.2.2 d q := by
  by_cases e : d = c ∧ q = k
  · rw [if_pos e, e.1, e.2, uR_s]
  · rw [if_neg e, uR_ne _ _ (by omega)]
theorem uR_S (s : cT) (c k : Nat) (v : Option Nat) : (uR s c k v).1 = s.1 := rfl
theorem uR_I (s : cT) (c k : Nat) (v : Option Nat) : (uR s c k v).2.1 = s.2.1 := rfl
theorem uR_L (s : cT) (c k : Nat) (v : Option Nat) : (uR s c k v).2.2.1 = s.2.2.1 := rfl
theorem uA_S (s : cT) (c : Nat) (f : Nat → Int32) : (uA s c f).1 = s.1 := rfl
theorem uA_R (s : cT) (c : Nat) (f : Nat → Int32) : (uA s c f).2.2.2 = s.2.2.2 := rfl
theorem uA_L (s : cT) (c : Nat) (f : Nat → Int32) : (uA s c f).2.2.1 = s.2.2.1 := rfl
theorem uA_app (s : cT) (c : Nat) (f : Nat → Int32) (d k : Nat) : (uA s c f).2.1 d k = if d = c then f k else s.2.1 d k := by
  show va_up s.2.1 c f d k = _
  by_cases h : d = c
  · rw [if_pos h, h, cu_same]
  · rw [if_neg h, cu_ne _ _ h]
theorem pA_1 (p : cP) (c v d : Nat) : (pA p c v).1 d = if d = c then v else p.1 d := rfl
theorem pA_2 (p : cP) (c v b : Nat) : (pA p c v).2 b = if b = v then some c else p.2 b := rfl
section TR
variable {p0 : cP} {g0 : zH} {p : cP} {s : cT} {g : zH} {k m : Nat}
theorem Tr_0 (h : Kp p s g) : Tr p g p s g 0 0 := ⟨h, fun _ _ hn => ⟨hn, rfl⟩, Nat.le_refl _, Nat.le_refl _, Nat.le_refl _⟩
theorem Tr_K (h : Tr p0 g0 p s g k m) : Kp p s g := h.1
theorem Tr_rm {K M : Nat} (h : Tr p0 g0 p s g k m) (hr : rm g0 K M) {k1 m1 : Nat} (h1 : k + k1 ≤ K) (h2 : m + m1 ≤ M) : rm g k1 m1 := ⟨by have := h.2.2.2.1; have := hr.1; omega, by have := h.2.2.2.2; have := hr.2; omega⟩
theorem Tr_add (h : Tr p0 g0 p s g k m) {c : Nat} {s1 : cT} {x : zC} {n : Nat} (hK : Kp (pA p c g.2.1) s1 (zadd g x n)) : Tr p0 g0 (pA p c g.2.1) s1 (zadd g x n) (k + 1) (m + n) := by
  obtain ⟨h1, h2, h3, h4, h5⟩ := h
  refine ⟨hK, fun b hb hn => ⟨?_, ?_⟩, Nat.le_succ_of_le h3, ?_, ?_⟩
  · rw [pA_2, if_neg (by omega)]; exact (h2 b hb hn).1
  · exact (cu_ne g.1 _ (by omega)).trans (h2 b hb hn).2
  · show g0.2.2.1 ≤ g.2.2.1 - 1 + (k + 1)
    omega
  · show g0.2.2.2 ≤ g.2.2.2 - n + (m + n)
    omega
theorem Tr_new {K M : Nat} (h : Tr p0 g0 p s g k m) (hr : rm g0 K M) (c ci n : Nat) {fs : List Value} (h1 : k + 1 ≤ K) (h2 : m + n ≤ M) (hc : (s.1 c).1 = 0) (hx : c < XT) (hf : fs = dft ci) : nO (cH p s g) ci n fs = some (g.2.1, cH (pA p c g.2.1) (sNw s c (1, ci)) (zadd g (true, .inr (ci, fs)) n)) ∧ Tr p0 g0 (pA p c g.2.1) (sNw s c (1, ci)) (zadd g (true, .inr (ci, fs)) n) (k + 1) (m + n) := by
  have q := K_nO h.1 (c := c) (ci := ci) (n := n) (fs := fs) (Tr_rm h hr h1 h2) hc hx hf
  exact ⟨q.1, Tr_add h q.2⟩
theorem Tr_arr {K M : Nat} (h : Tr p0 g0 p s g k m) (hr : rm g0 K M) (c t n : Nat) {x : Int32} {d : zS} (h1 : k + 1 ≤ K) (h2 : m + n ≤ M) (hn : n < 100000) (hxn : x = Int32.ofNat n) (hd : d = d0 t) (hc : (s.1 c).1 = 0) (hx : c < XT) : nA (cH p s g) t x d = some (g.2.1, cH (pA p c g.2.1) (sNw s c (t + 2, n)) (zadd g (true, .inl (t, n, d)) n)) ∧ Tr p0 g0 (pA p c g.2.1) (sNw s c (t + 2, n)) (zadd g (true, .inl (t, n, d)) n) (k + 1) (m + n) := by
  have q := K_nA h.1 (c := c) (t := t) (n := n) (x := x) (d := d) (Tr_rm h hr h1 h2) hn hxn hd hc hx
  exact ⟨q.1, Tr_add h q.2⟩
theorem Tr_R (h : Tr p0 g0 p s g k m) (c ci j d : Nat) {a b : Nat} (hc : s.1 c = (1, ci)) (hk : (vT ci)[j]? = some 2) (hx : c < XT) (ha : p.1 c = a) (hb : p.1 d = b) (hd : (s.1 d).1 ≠ 0 ∨ XT ≤ d) (h6 : (s.1 d).1 = 6 → ∀ e q, (s.1 e).1 ≠ 0 → s.2.2.2 e q ≠ some d) : pF (cH p s g) a ci j (.ref b) = some (cH p (uR s c j (some d)) g) ∧ Tr p0 g0 p (uR s c j (some d)) g k m := by
  subst ha hb
  exact ⟨c_pR h.1.1 hc hk, Kp_uR h.1 hx j (fun e he => by cases he; exact ⟨hd, h6⟩), h.2⟩
theorem Tr_I (h : Tr p0 g0 p s g k m) (c ci j : Nat) {a : Nat} {v : Int32} (hc : s.1 c = (1, ci)) (hk : (vT ci)[j]? = some 0) (ha : p.1 c = a) : pF (cH p s g) a ci j (.int v) = some (cH p (uI s c j v) g) ∧ Tr p0 g0 p (uI s c j v) g k m := by
  subst ha
  exact ⟨c_pI h.1.1 hc hk, Kp_uI h.1 _ _ _, h.2⟩
theorem Tr_L (h : Tr p0 g0 p s g k m) (c ci j : Nat) {a : Nat} {v : Int64} (hc : s.1 c = (1, ci)) (hk : (vT ci)[j]? = some 1) (ha : p.1 c = a) : pF (cH p s g) a ci j (.long v) = some (cH p (uL s c j v) g) ∧ Tr p0 g0 p (uL s c j v) g k m := by
  subst ha
  exact ⟨c_pL h.1.1 hc hk, Kp_uL h.1 _ _ _, h.2⟩
/-- an empty list is made *(its array gets the code r)* -/
theorem Tr_list {K M : Nat} (E : zE) (h : Tr p0 g0 p s g k m) (hr : rm g0 K M) (c r : Nat) {a : Nat} (h1 : k + 1 ≤ K) (h2 : m + 2 ≤ M) (hc : s.1 c = (1, 15)) (hcx : c < XT) (ha : p.1 c = a) (hz : (s.1 r).1 = 0) (hrx : r < XT) : f_J2_init E a (2 : Int32) (cH p s g) = some ((), cH (pA p r g.2.1) (uR (sNw (uI s c 0 0) r (6, 2)) c 1 (some r)) (zadd g (true, .inl (4, 2, .inr (.inr fun _ => none))) 2)) ∧ Tr p0 g0 (pA p r g.2.1) (uR (sNw (uI s c 0 0) r (6, 2)) c 1 (some r)) (zadd g (true, .inl (4, 2, .inr (.inr fun _ => none))) 2) (k + 1) (m + 2) := by
  have ncr : c ≠ r := fun q => by rw [q] at hc; rw [hc] at hz; cases hz
  obtain ⟨e1, T1⟩ := Tr_I h c 15 0 (v := 0) hc rfl ha
  obtain ⟨e2, T2⟩ := Tr_arr (x := (2 : Int32)) (d := .inr (.inr fun _ => none)) T1 hr r 4 2 h1 h2 (by decide) rfl rfl hz hrx
  have fr := Kp_fr T1.1 (c := r) hz hrx
  obtain ⟨e3, T3⟩ := Tr_R T2 c 15 1 r (a := a) (b := g.2.1) (by rw [sNw_1, if_neg ncr]; exact hc) rfl hcx (by rw [pA_1, if_neg ncr]; exact ha) (by rw [pA_1, if_pos rfl]) (Or.inl (by rw [sNw_1, if_pos rfl]; exact Nat.succ_ne_zero _)) (fun _ e q he hq => by
    rw [sNw_R] at hq
    rw [sNw_1] at he
    by_cases w : e = r
    · rw [if_pos w] at hq; cases hq
    · rw [if_neg w] at hq he
      exact fr.2 e q he hq)
  refine ⟨?_, T3⟩
  unfold f_J2_init f_J2_init_b0 f_J2_init_b60 f_J1_init_J2 f_J1_init_J2_b0 f_J0_init_J2 f_J0_init_J2_b0
  rw [b2_some, e1, b1_some, b2_some, if_neg (by decide), e2, b2_some, e3, b1_some]
theorem Tr_tr {p1 : cP} {g1 : zH} {p2 : cP} {s2 : cT} {g2 : zH} {s1 : cT} {k1 m1 : Nat} (h : Tr p0 g0 p1 s1 g1 k m) (h1 : Tr p1 g1 p2 s2 g2 k1 m1) : Tr p0 g0 p2 s2 g2 (k + k1) (m + m1) := by
  obtain ⟨a1, a2, a3, a4, a5⟩ := h
  obtain ⟨b1, b2, b3, b4, b5⟩ := h1
  exact ⟨b1, fun b hb hn => ⟨(b2 b (by omega) (a2 b hb hn).1).1, ((b2 b (by omega) (a2 b hb hn).1).2).trans (a2 b hb hn).2⟩, by omega, by omega, by omega⟩
theorem Tr_w {k1 m1 : Nat} (h : Tr p0 g0 p s g k m) (hk : k ≤ k1) (hm : m ≤ m1) : Tr p0 g0 p s g k1 m1 := ⟨h.1, h.2.1, h.2.2.1, by have := h.2.2.2.1; omega, by have := h.2.2.2.2; omega⟩
theorem Tr_ad {c r n e : Nat} {el : Nat → Nat} {p1 : cP} {s1 : cT} {g1 : zH} (h : Tr p0 g0 p s g k m) (ha : addS p s g c r n e el p1 s1 g1) : Tr p0 g0 p1 s1 g1 (k + 1) (m + 200) := by
  obtain ⟨a1, a2, a3, a4, a5⟩ := h
  obtain ⟨b1, b2, b3, b4, b5, b6, b7, b8, b9⟩ := ha
  exact ⟨b1, fun b hb hn => ⟨(b6 b (by omega) (a2 b hb hn).1).1, ((b6 b (by omega) (a2 b hb hn).1).2).trans (a2 b hb hn).2⟩, by omega, by omega, by omega⟩
end TR
