/-! royalties, costs, the cheapest plan, paying off -/
set_option maxRecDepth 100000
/-- rate and threshold of a tier, what is owed for it -/
def rt (s : cT) (i j : Nat) : Int64 := (s.2.1 (70 + 8 * i + j) 1).toInt64
def th (s : cT) (i j : Nat) : Int64 := s.2.2.1 (70 + 8 * i + j) 0
def nxt (s : cT) (i n j : Nat) : Int64 := if j + 1 < n then th s i (j + 1) else 9223372036854775807
def rtm (s : cT) (i n : Nat) (x : Int64) (j : Nat) : Int64 := (if (0 : Int64) < (if nxt s i n j < x then nxt s i n j else x) - th s i j then (if nxt s i n j < x then nxt s i n j else x) - th s i j else 0) * rt s i j
def RY (s : cT) (i n : Nat) (x : Int64) : Int64 := (sml (rtm s i n x) n + 5000) / 10000
def CST (s : cT) (i n : Nat) (x : Int64) : Int64 := RY s i n x + (x * (s.2.1 (40 + i) 0).toInt64 + 5000) / 10000
/-- the cheapest of the first j plans -/
def chp (s : cT) (nt : Nat → Nat) (x : Int64) : Nat → Nat
  | 0 => 0
  | j + 1 => if CST s (chp s nt x j) (nt (chp s nt x j)) x ≤ CST s (j + 1) (nt (j + 1)) x then chp s nt x j else j + 1
theorem chp_le (s : cT) (nt : Nat → Nat) (x : Int64) : ∀ j, chp s nt x j ≤ j
  | 0 => Nat.le_refl _
  | j + 1 => by
    have := chp_le s nt x j
    unfold chp
    split <;> omega
section LC
variable {E : zE} {N : iN} {s : cT} {g : zH}
theorem x_RY (hE : 1000 ≤ E.1) {i : Nat} (hn : N.2.2.2.2 i ≤ 5) (x : Int64) : c_X9_royalty E N i x s g = some (RY s i (N.2.2.2.2 i) x, (s, g)) := by
  rw [← w_eq]
  unfold c_X9_royalty c_X9_royalty_b0
  refine w_lp (L := fun m k a => c_X9_royalty_l5 E N m i x a k s g) (n := N.2.2.2.2 i) (by omega) (Inv := fun j a => a = sml (rtm s i (N.2.2.2.2 i) x) j) (fun m j a hj ha k => ?_) (fun m a ha => ?_) (N.2.2.2.2 i) 0 E.1 0 (by omega) (by omega) rfl
  · show Ww (c_X9_royalty_l5 E N (m + 1) i x a (Int32.ofNat j) s g) _
    have key : ∀ v, v = nxt s i (N.2.2.2.2 i) j → Ww (c_X9_royalty_b60 E N (c_X9_royalty_l5 E N m) i x a (Int32.ofNat j) v s g) (fun z => z = (RY s i (N.2.2.2.2 i) x, (s, g))) := fun v hv => by
      subst hv
      unfold c_X9_royalty_b60 c_X10_threshold c_X10_threshold_b0 c_X10_rate c_X10_rate_b0
      rw [x_min2, b2_some, cGet_of hj (by omega), b1_some, b2_some, x_max2, b2_some, b1_some, b2_some, i32_s]
      exact k _ (by rw [ha]; rfl)
    unfold c_X9_royalty_l5
    rw [if_neg (le_ofn (by omega) hj)]
    by_cases h : j + 1 < N.2.2.2.2 i
    · rw [i32_s, if_neg (le_ofn (by omega) h), cGet_of h (by omega), b1_some]
      exact key _ (by unfold nxt; rw [if_pos h]; rfl)
    · rw [if_pos (show Int32.ofNat (N.2.2.2.2 i) ≤ Int32.ofNat j + 1 by rw [i32_s, i32_le (by omega) (by omega)]; omega)]
      exact key _ (by unfold nxt; rw [if_neg h])
  · show Ww (c_X9_royalty_l5 E N (m + 1) i x a (Int32.ofNat (N.2.2.2.2 i)) s g) _
    unfold c_X9_royalty_l5
    rw [if_pos (Int32.le_refl _), ha]
    exact w_some.mpr rfl
theorem x_CST (hE : 1000 ≤ E.1) {i : Nat} (hn : N.2.2.2.2 i ≤ 5) (x : Int64) : c_X9_cost E N i x s g = some (CST s i (N.2.2.2.2 i) x, (s, g)) := by
  unfold c_X9_cost c_X9_cost_b0
  rw [x_RY hE hn, b2_some, x_rated, b2_some]
  rfl
theorem x_chp (hE : 1000 ≤ E.1) (h4 : N.2.2.2.1 ≤ 4) (h1 : 1 ≤ N.2.2.2.1) (hn : ∀ i, i < N.2.2.2.1 → N.2.2.2.2 i ≤ 5) (x : Int64) : c_X1_cheapest E N x s g = some (Int32.ofNat (chp s N.2.2.2.2 x (N.2.2.2.1 - 1)), (s, g)) := by
  rw [← w_eq]
  unfold c_X1_cheapest c_X1_cheapest_b0
  refine w_lp (L := fun m k a => c_X1_cheapest_l5 E N m x a k s g) (n := N.2.2.2.1) (by omega) (Inv := fun j a => 1 ≤ j ∧ a = Int32.ofNat (chp s N.2.2.2.2 x (j - 1))) (fun m j a hj ha k => ?_) (fun m a ha => ?_) (N.2.2.2.1 - 1) 1 E.1 (0 : Int32) (by omega) (by omega) ⟨Nat.le_refl _, rfl⟩
  · show Ww (c_X1_cheapest_l5 E N (m + 1) x a (Int32.ofNat j) s g) _
    obtain ⟨hj1, ha⟩ := ha
    obtain ⟨q, rfl⟩ : ∃ q, j = q + 1 := ⟨j - 1, by omega⟩
    have hc := chp_le s N.2.2.2.2 x q
    have ha : a = Int32.ofNat (chp s N.2.2.2.2 x q) := ha
    unfold c_X1_cheapest_l5 c_X1_cheapest_b55
    rw [if_neg (le_ofn (by omega) hj), cGet_of hj (by omega), b1_some, x_CST hE (hn _ hj), b2_some, ha, cGet_of (show chp s N.2.2.2.2 x q < N.2.2.2.1 by omega) (by omega), b1_some, x_CST hE (hn _ (by omega)), b2_some, i32_s]
    by_cases c : CST s (chp s N.2.2.2.2 x q) (N.2.2.2.2 (chp s N.2.2.2.2 x q)) x ≤ CST s (q + 1) (N.2.2.2.2 (q + 1)) x
    · rw [if_pos c]
      exact k _ ⟨by omega, by show _ = Int32.ofNat (chp s N.2.2.2.2 x (q + 1)); conv => rhs; unfold chp
                              rw [if_pos c]⟩
    · rw [if_neg c]
      exact k _ ⟨by omega, by show _ = Int32.ofNat (chp s N.2.2.2.2 x (q + 1)); conv => rhs; unfold chp
                              rw [if_neg c]⟩
  · show Ww (c_X1_cheapest_l5 E N (m + 1) x a (Int32.ofNat N.2.2.2.1) s g) _
    unfold c_X1_cheapest_l5
    rw [if_pos (Int32.le_refl _), w_some, ha.2]
end LC
section LTT
variable {E : zE} {t : twS} {s : cT} {np : Nat} {nt : Nat → Nat}
theorem btw_th (h : RR s np nt t.1) (hJ : IR t.1 np) {i j : Nat} (hi : i < np) (hj : j < nt i) : btw (th s i j) 0 9999900 := by
  unfold th
  by_cases c : j = 0
  · subst c
    rw [r_th0 h hi]
    exact ⟨by decide, by decide⟩
  · obtain ⟨q, rfl⟩ : ∃ q, j = q + 1 := ⟨j - 1, by omega⟩
    have h5 := r_nt5 h hi
    have hq : q < 4 := by omega
    rw [← r_thr h hi hj]
    exact (hJ.2.2.2.2.2.2.2 i hi).2 q hq
theorem btw_lt0 {a b : Int64} (ha : btw a (-4611686018427387904) 4611686018427387904) (hb : btw b 0 9999900) : (0 : Int64) < a - b ↔ b < a := by
  have e : (a - b).toInt = a.toInt - b.toInt := by
    have := ha.1; have := ha.2; have := hb.1; have := hb.2
    rw [Int64.toInt_sub, Int.bmod_eq_of_le (by omega) (by omega)]
  rw [Int64.lt_iff_toInt_lt, Int64.lt_iff_toInt_lt, e]
  show (0 : Int) < _ ↔ _
  omega
/-- one tier, as the twin reckons -/
theorem rtm_t {i n j : Nat} {x to : Int64} (hto : to = if nxt s i n j < x then nxt s i n j else x) (hx : btw to (-4611686018427387904) 4611686018427387904) (ht : btw (th s i j) 0 9999900) (a : Int64) : (if to ≤ th s i j then a else a + (to - th s i j) * rt s i j) = a + rtm s i n x j := by
  unfold rtm
  rw [← hto]
  by_cases c : to ≤ th s i j
  · rw [if_pos c, if_neg (fun q => absurd ((btw_lt0 hx ht).mp q) (Int64.not_lt.mpr c)), Int64.zero_mul, Int64.add_zero]
  · rw [if_neg c, if_pos ((btw_lt0 hx ht).mpr (Int64.not_le.mp c))]
theorem y_RY (h : RR s np nt t.1) (hJ : IR t.1 np) (hE : 1000 ≤ E.1) (h4 : np ≤ 4) {i : Nat} (hi : i < np) {x : Int64} (hx : btw x (-4611686018427387904) 4611686018427387904) : t_X6_royaltyOf E (Int32.ofNat i) x t = some (RY s i (nt i) x, t) := by
  rw [← w_eq]
  have h1 := r_nt1 h hi
  have h5 := r_nt5 h hi
  unfold t_X6_royaltyOf t_X6_royaltyOf_b0
  rw [y_op1 (by omega), b2_some, r_bas h hi]
  refine w_lp (σ := Int64 × (Int64 × Int64)) (L := fun m k a => t_X6_royaltyOf_l17 E m (Int32.ofNat i) x a.1 a.2.1 a.2.2 k t) (n := nt i) (by omega) (Inv := fun j a => a.1 = sml (rtm s i (nt i) x) j ∧ (j < nt i → a.2.1 = th s i j ∧ a.2.2 = rt s i j)) (fun m j a hj ha k => ?_) (fun m a ha => ?_) (nt i) 0 E.1 (0, (0, (s.2.1 (70 + 8 * i + 0) 1).toInt64)) (by omega) (by omega) ⟨rfl, fun _ => ⟨(r_th0 h hi).symm, rfl⟩⟩
  · show Ww (t_X6_royaltyOf_l17 E (m + 1) (Int32.ofNat i) x a.1 a.2.1 a.2.2 (Int32.ofNat j) t) _
    obtain ⟨ha1, ha2⟩ := ha
    obtain ⟨ha2, ha3⟩ := ha2 hj
    have hth := btw_th h hJ hi hj
    unfold t_X6_royaltyOf_l17 t_X6_royaltyOf_b48 t_X6_royaltyOf_b68
    rw [y_op2 (by omega), b2_some, r_nt h hi, i32_64 (by omega), if_neg (by rw [i64_lt (by omega) (by omega)]; omega), y_op2 (by omega), b2_some, r_nt h hi]
    by_cases c : j + 1 < nt i
    · have ej : j < 4 := by omega
      rw [if_neg (by rw [i64_eq (by omega) (by omega)]; omega), if_pos rfl]
      have e3 : ∀ u : twS, u = t → t_X6_ofPlan E (Int32.ofNat i) ((3 : Int32) + Int32.ofNat j) u = some (th s i (j + 1), t) := fun u hu => by
        subst hu
        show t_X6_ofPlan E (Int32.ofNat i) (Int32.ofNat 3 + Int32.ofNat j) u = _
        rw [← Int32.ofNat_add, y_op (by omega) (by omega), r_thr h hi c]
        rfl
      have e7 : ∀ u : twS, u = t → t_X6_ofPlan E (Int32.ofNat i) ((7 : Int32) + Int32.ofNat j) u = some (rt s i (j + 1), t) := fun u hu => by
        subst hu
        show t_X6_ofPlan E (Int32.ofNat i) (Int32.ofNat 7 + Int32.ofNat j) u = _
        rw [← Int32.ofNat_add, y_op (by omega) (by omega), r_rat h hi c]
        rfl
      have fin : ∀ v, v = a.1 + rtm s i (nt i) x j → Ww (t_X6_royaltyOf_b106 E (t_X6_royaltyOf_l17 E m) (Int32.ofNat i) x v a.2.1 a.2.2 (Int32.ofNat j) 0 t) (fun z => z = (RY s i (nt i) x, t)) := fun v hv => by
        unfold t_X6_royaltyOf_b106 t_X6_royaltyOf_b137
        rw [if_pos rfl, e3 t rfl, b2_some, e7 t rfl, b2_some, i32_s]
        exact k (v, (th s i (j + 1), rt s i (j + 1))) ⟨by rw [hv, ha1]; rfl, fun _ => ⟨rfl, rfl⟩⟩
      have st : ∀ to, (to = if nxt s i (nt i) j < x then nxt s i (nt i) j else x) → btw to (-4611686018427387904) 4611686018427387904 → Ww (t_X6_royaltyOf_b83 E (t_X6_royaltyOf_l17 E m) (Int32.ofNat i) x a.1 a.2.1 a.2.2 (Int32.ofNat j) 0 to t) (fun z => z = (RY s i (nt i) x, t)) := fun to hto hb => by
        have e := rtm_t hto hb hth a.1
        unfold t_X6_royaltyOf_b83
        rw [ha2, ha3]
        rw [ha2, ha3] at fin
        by_cases q : to ≤ th s i j
        · rw [if_pos q] at e ⊢
          exact fin _ e
        · rw [if_neg q] at e ⊢
          exact fin _ e
      rw [e3 t rfl, b2_some]
      have hn : nxt s i (nt i) j = th s i (j + 1) := if_pos c
      have hth1 := btw_th h hJ hi c
      by_cases q : x ≤ th s i (j + 1)
      · rw [if_pos q]
        exact st x (by rw [hn, if_neg (Int64.not_lt.mpr q)]) hx
      · rw [if_neg q]
        exact st _ (by rw [hn, if_pos (Int64.not_le.mp q)]) (btw_w hth1 (by decide) (by decide))
    · rw [if_pos (by rw [i64_eq (by omega) (by omega)]; omega), if_neg (by decide)]
      have fin : ∀ v, v = a.1 + rtm s i (nt i) x j → Ww (t_X6_royaltyOf_b106 E (t_X6_royaltyOf_l17 E m) (Int32.ofNat i) x v a.2.1 a.2.2 (Int32.ofNat j) 1 t) (fun z => z = (RY s i (nt i) x, t)) := fun v hv => by
        unfold t_X6_royaltyOf_b106 t_X6_royaltyOf_b137
        rw [if_neg (by decide), i32_s]
        exact k (v, (a.2.1, a.2.2)) ⟨by rw [hv, ha1]; rfl, fun q => absurd q c⟩
      have hn : nxt s i (nt i) j = 9223372036854775807 := if_neg c
      have e := rtm_t (s := s) (i := i) (n := nt i) (j := j) (x := x) (to := x) (by rw [hn, if_neg (by rw [Int64.lt_iff_toInt_lt]; have := Int64.toInt_lt x; show ¬ (9223372036854775807 : Int) < x.toInt; omega)]) hx hth a.1
      have go : Ww (t_X6_royaltyOf_b83 E (t_X6_royaltyOf_l17 E m) (Int32.ofNat i) x a.1 a.2.1 a.2.2 (Int32.ofNat j) 1 x t) (fun z => z = (RY s i (nt i) x, t)) := by
        unfold t_X6_royaltyOf_b83
        rw [ha2, ha3]
        rw [ha2, ha3] at fin
        by_cases q : x ≤ th s i j
        · rw [if_pos q] at e ⊢
          exact fin _ e
        · rw [if_neg q] at e ⊢
          exact fin _ e
      rw [if_pos (Int64.le_refl _)]
      exact go
  · show Ww (t_X6_royaltyOf_l17 E (m + 1) (Int32.ofNat i) x a.1 a.2.1 a.2.2 (Int32.ofNat (nt i)) t) _
    unfold t_X6_royaltyOf_l17
    rw [y_op2 (by omega), b2_some, r_nt h hi, i32_64 (by omega), if_pos (by rw [i64_lt (by omega) (by omega)]; omega), y_half, b2_some, w_some, ha.1]
    rfl
theorem y_CST (h : RR s np nt t.1) (hJ : IR t.1 np) (hE : 1000 ≤ E.1) (h4 : np ≤ 4) {i : Nat} (hi : i < np) {x : Int64} (hx : btw x (-4611686018427387904) 4611686018427387904) : t_X6_feesBy E (Int32.ofNat i) x t = some (CST s i (nt i) x, t) := by
  unfold t_X6_feesBy t_X6_feesBy_b0
  rw [y_RY h hJ hE h4 hi hx, b2_some, y_op0 (by omega), b2_some, r_adv h hi, y_rated, b2_some]
  rfl
theorem y_chp (h : RR s np nt t.1) (hJ : IR t.1 np) (hE : 1000 ≤ E.1) (h4 : np ≤ 4) (h1 : 1 ≤ np) {x : Int64} (hx : btw x (-4611686018427387904) 4611686018427387904) : t_X6_cheapestPlan_l42 E E.1 x (0 : Int32) (1 : Int32) t = some (Int32.ofNat (chp s nt x (np - 1)), t) := by
  rw [← w_eq]
  refine w_lp (L := fun m k a => t_X6_cheapestPlan_l42 E m x a k t) (n := np) (by omega) (Inv := fun j a => 1 ≤ j ∧ a = Int32.ofNat (chp s nt x (j - 1))) (fun m j a hj ha k => ?_) (fun m a ha => ?_) (np - 1) 1 E.1 (0 : Int32) (by omega) (by omega) ⟨Nat.le_refl _, rfl⟩
  · show Ww (t_X6_cheapestPlan_l42 E (m + 1) x a (Int32.ofNat j) t) _
    obtain ⟨hj1, ha⟩ := ha
    obtain ⟨q, rfl⟩ : ∃ q, j = q + 1 := ⟨j - 1, by omega⟩
    have hc := chp_le s nt x q
    have ha : a = Int32.ofNat (chp s nt x q) := ha
    unfold t_X6_cheapestPlan_l42 t_X6_cheapestPlan_b77
    rw [y_d1, b1_some, r_np h, if_neg (i64_nle (by omega) hj), y_CST h hJ hE h4 hj hx, b2_some, ha, y_CST h hJ hE h4 (show chp s nt x q < np by omega) hx, b2_some, i32_s]
    by_cases c : CST s (chp s nt x q) (nt (chp s nt x q)) x ≤ CST s (q + 1) (nt (q + 1)) x
    · rw [if_pos c]
      exact k _ ⟨by omega, by show _ = Int32.ofNat (chp s nt x (q + 1)); conv => rhs; unfold chp
                              rw [if_pos c]⟩
    · rw [if_neg c]
      exact k _ ⟨by omega, by show _ = Int32.ofNat (chp s nt x (q + 1)); conv => rhs; unfold chp
                              rw [if_neg c]⟩
  · show Ww (t_X6_cheapestPlan_l42 E (m + 1) x a (Int32.ofNat np) t) _
    unfold t_X6_cheapestPlan_l42
    rw [y_d1, b1_some, r_np h, if_pos (i64_nre (by omega)), w_some, ha.2]
end LTT
