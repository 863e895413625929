/-! StringBuilder.toString: a raw String -/
set_option maxRecDepth 100000
section SB
variable {p : cP} {s : cT} {g : zH} {E : zE} {b r L cap : Nat}
/-- presented bytes are copied into a raw array -/
theorem c_cpY (hp : okP p s) {c v n0 n1 n : Nat} {f : Nat → Int32} (hc : s.1 c = (4, n0)) (hv : p.2 v = none) (hg : g.1 v = some (true, .inl (2, n1, .inl f))) (h0 : n ≤ n0) (h1 : n ≤ n1) (hn : n < 2 ^ 31) : cpA (cH p s g) (p.1 c) (0 : Int32) v (0 : Int32) (Int32.ofNat n) = some (cH p s (zup g v (true, .inl (2, n1, .inl (va_cpy (s.2.1 c) f 0 0 n))))) := by
  have hz : (s.1 c).1 ≠ 0 := by rw [hc]; exact Nat.succ_ne_zero _
  have hcd : 2 = 2 ∧ ¬ (0 : Int32) < 0 ∧ ¬ (0 : Int32) < 0 ∧ ¬ Int32.ofNat n < 0 ∧ 0 + n ≤ n0 ∧ 0 + n ≤ n1 ∧ (List.range n).all (fun i => okV (cH p s g) 2 (zv (.inl (s.2.1 c)) (0 + i))) = true := ⟨rfl, by decide, by decide, i32_nneg (by omega), by omega, by omega, by
    rw [List.all_eq_true]
    intro i _
    rfl⟩
  unfold cpA
  rw [cH_at hp hz, cH_raw hv, hg, cC_arr (t := 2) hc, nat_clamp (n := n) (by omega), show (0 : Int32).toNatClampNeg = 0 by decide]
  refine (if_pos hcd).trans ?_
  rw [← r_up hv]
  rfl
/-- the array of a String is made *(n of cap bytes)* -/
theorem J_cor (hp : okP p s) {c n : Nat} (hc : s.1 c = (4, cap)) (hcap : cap < 100000) (hn : n ≤ cap) (ho : p.2 g.2.1 = none) (hr : rm g 1 cap) : ∃ f, f_J13_copyOfRange E (p.1 c) (0 : Int32) (Int32.ofNat n) (cH p s g) = some (g.2.1, cH p s (zadd g (true, .inl (2, n, .inl f)) n)) ∧ ∀ j, j < n → f j = s.2.1 c j := by
  have hz : (s.1 c).1 ≠ 0 := by rw [hc]; exact Nat.succ_ne_zero _
  have r1 := hr.1
  have r2 := hr.2
  unfold f_J13_copyOfRange f_J13_copyOfRange_b0
  rw [if_pos rfl, c_len hp (t := 2) hc, b1_some]
  by_cases q : n = cap
  · subst q
    refine ⟨s.2.1 c, ?_, fun _ _ => rfl⟩
    have e : clA (cH p s g) (p.1 c) = some (g.2.1, zadd (cH p s g) (true, .inl (2, n, .inl (s.2.1 c))) n) := by
      unfold clA
      rw [cH_at hp hz, cC_arr (t := 2) hc]
      show (if 1 ≤ g.2.2.1 ∧ n ≤ g.2.2.2 then some (g.2.1, _) else none) = _
      rw [if_pos ⟨by omega, by omega⟩]
      rfl
    rw [if_pos rfl, e, b2_some, r_add ho]
    have ck : cka (cH p s (zadd g (true, .inl (2, n, .inl (s.2.1 c))) n)) g.2.1 2 = some () := by
      unfold cka isA
      rw [cH_raw ho, show (zadd g (true, .inl (2, n, .inl (s.2.1 c))) n).1 g.2.1 = some (true, .inl (2, n, .inl (s.2.1 c))) from cu_same _ _ _]
      rfl
    rw [ck, b1_some]
  · refine ⟨va_cpy (s.2.1 c) (fun _ => 0) 0 0 n, ?_, fun j hj => ?_⟩
    · rw [if_neg (fun z => q ((i32_eq (by omega) (by omega)).mp z))]
      unfold f_J13_copyOfRange_b10 f_J13_copyOfRangeByte f_J13_copyOfRangeByte_b0
      have ec : f_J13_checkLength E (0 : Int32) (Int32.ofNat n) (cH p s g) = some ((), cH p s g) := by
        unfold f_J13_checkLength f_J13_checkLength_b0
        rw [if_pos (by rw [show (0 : Int32) = Int32.ofNat 0 from rfl, i32_le (by decide) (by omega)]; omega)]
      have es : ∀ x : Nat, Int32.ofNat x - 0 = Int32.ofNat x := fun x => Int32.sub_zero _
      have en : nA (cH p s g) 2 (Int32.ofNat n) (.inl fun _ => 0) = some (g.2.1, cH p s (zadd g (true, .inl (2, n, .inl fun _ => 0)) n)) := by
        rw [r_nA ho]
        unfold nA
        rw [nat_clamp (by omega), if_pos ⟨i32_nneg (by omega), by omega, by omega, by omega⟩]
        rfl
      have em : ∀ hh : zH, f_J12_min E (Int32.ofNat cap) (Int32.ofNat n) hh = some (Int32.ofNat n, hh) := fun hh => by
        unfold f_J12_min f_J12_min_b0 f_J12_min_b10
        by_cases w : n = cap
        · exact absurd w q
        · rw [if_pos (by rw [i32_lt (by omega) (by omega)]; omega)]
      have ea : (zadd g (true, .inl (2, n, .inl fun _ => 0)) n).1 g.2.1 = some (true, .inl (2, n, .inl fun _ => 0)) := cu_same _ _ _
      rw [ec, b2_some, es, en, b2_some, c_len hp (t := 2) hc, b1_some, es, em, b2_some, c_cpY hp hc ho ea hn (Nat.le_refl _) (by omega), b1_some, b2_some]
      refine congrArg (fun x => some (g.2.1, cH p s x)) ?_
      refine Prod.ext (funext fun a => ?_) rfl
      show va_up (va_up g.1 g.2.1 _) g.2.1 _ a = va_up g.1 g.2.1 _ a
      by_cases w : a = g.2.1
      · rw [w, cu_same, cu_same]
      · rw [cu_ne _ _ w, cu_ne _ _ w, cu_ne _ _ w]
    · show (if 0 ≤ j ∧ j < 0 + n then s.2.1 c (0 + (j - 0)) else 0) = _
      rw [if_pos ⟨by omega, by omega⟩, show 0 + (j - 0) = j by omega]
theorem sb_tos (hK : Kp p s g) (h : Sb s b r L cap) {l : List Int32} (hl : l.length = L) (hb : ∀ j c, l[j]? = some c → s.2.1 r j = c) (hL : L < 10000) (hr : rm g 2 (cap + 4)) : ∃ g1, f_J8_toString E (p.1 b) (cH p s g) = some (g.2.1, cH p s g1) ∧ Tr p g p s g1 2 (cap + 4) ∧ StrH (rv0 p g1) g.2.1 l := by
  have hS := h
  obtain ⟨h1, h2, h3, h4, h5, h6, h7⟩ := h
  have hp := hK.1
  have r1 := hr.1
  have r2 := hr.2
  have o0 := hK.2.1 g.2.1 (Nat.le_refl _)
  have o1 := hK.2.1 (g.2.1 + 1) (Nat.le_succ _)
  -- the String
  have e1 : nO (cH p s g) 19 4 [.null, .int 0, .int 0, .int 0] = some (g.2.1, cH p s (zadd g (true, .inr (19, [.null, .int 0, .int 0, .int 0])) 4)) := by
    rw [r_nO o0]
    unfold nO
    rw [if_pos ⟨by omega, by omega⟩]
    rfl
  generalize hg1 : zadd g (true, .inr (19, [.null, .int 0, .int 0, .int 0])) 4 = g1 at e1
  have s1 : g1.2.1 = g.2.1 + 1 ∧ g1.2.2.1 = g.2.2.1 - 1 ∧ g1.2.2.2 = g.2.2.2 - 4 := by rw [← hg1]; exact ⟨rfl, rfl, rfl⟩
  have c1 : g1.1 g.2.1 = some (true, .inr (19, [.null, .int 0, .int 0, .int 0])) := by rw [← hg1]; exact cu_same _ _ _
  have f1 : ∀ a, a ≠ g.2.1 → g1.1 a = g.1 a := fun a ha => by rw [← hg1]; exact cu_ne _ _ ha
  have e2 : pF (cH p s g1) g.2.1 19 1 (.int 0) = some (cH p s g1) := by
    rw [r_pF o0]
    have e : pF g1 g.2.1 19 1 (.int 0) = some g1 := by
      unfold pF
      rw [c1]
      show (if 19 = 19 ∧ 1 < 4 then some (zup g1 g.2.1 (true, .inr (19, [.null, .int 0, .int 0, .int 0]))) else none) = _
      rw [if_pos ⟨rfl, by decide⟩]
      refine congrArg some (Prod.ext (funext fun a => ?_) rfl)
      show va_up g1.1 g.2.1 _ a = g1.1 a
      by_cases w : a = g.2.1
      · rw [w, cu_same, c1]
      · rw [cu_ne _ _ w]
    rw [e]
    rfl
  have o1' : p.2 g1.2.1 = none := by rw [s1.1]; exact o1
  obtain ⟨f, e3, hf⟩ := J_cor (E := E) (g := g1) (n := L) hp h3 h7 h6 o1' ⟨by omega, by omega⟩
  generalize hg2 : zadd g1 (true, .inl (2, L, .inl f)) L = g2 at e3
  have s2 : g2.2.1 = g.2.1 + 2 ∧ g2.2.2.1 = g.2.2.1 - 1 - 1 ∧ g2.2.2.2 = g.2.2.2 - 4 - L := by
    rw [← hg2]
    refine ⟨?_, ?_, ?_⟩
    · show g1.2.1 + 1 = _
      rw [s1.1]
    · show g1.2.2.1 - 1 = _
      rw [s1.2.1]
    · show g1.2.2.2 - L = _
      rw [s1.2.2]
  have c2 : g2.1 (g.2.1 + 1) = some (true, .inl (2, L, .inl f)) := by rw [← hg2, ← s1.1]; exact cu_same _ _ _
  have f2 : ∀ a, a ≠ g.2.1 + 1 → g2.1 a = g1.1 a := fun a ha => by rw [← hg2]; exact cu_ne _ _ (by rw [s1.1]; exact ha)
  have c2' : g2.1 g.2.1 = some (true, .inr (19, [.null, .int 0, .int 0, .int 0])) := by rw [f2 _ (by omega)]; exact c1
  have e4 : pF (cH p s g2) g.2.1 19 0 (.ref g1.2.1) = some (cH p s (zup g2 g.2.1 (true, .inr (19, [.ref (g.2.1 + 1), .int 0, .int 0, .int 0])))) := by
    rw [r_pF o0]
    have e : pF g2 g.2.1 19 0 (.ref g1.2.1) = some (zup g2 g.2.1 (true, .inr (19, [.ref (g.2.1 + 1), .int 0, .int 0, .int 0]))) := by
      unfold pF
      rw [c2', s1.1]
      exact if_pos ⟨rfl, by decide⟩
    rw [e]
    rfl
  generalize hg3 : zup g2 g.2.1 (true, .inr (19, [.ref (g.2.1 + 1), .int 0, .int 0, .int 0])) = g3 at e4
  have s3 : g3.2 = g2.2 := by rw [← hg3]; rfl
  have c3 : g3.1 g.2.1 = some (true, .inr (19, [.ref (g.2.1 + 1), .int 0, .int 0, .int 0])) := by rw [← hg3]; exact cu_same _ _ _
  have f3 : ∀ a, a ≠ g.2.1 → g3.1 a = g2.1 a := fun a ha => by rw [← hg3]; exact cu_ne _ _ ha
  have vw : ∀ a c, a < g.2.1 + 2 → p.2 a = none → g3.1 a = some c → rv0 p g3 a = some c := fun a c h1 h2 h3 => by
    unfold rv0
    rw [if_pos ⟨by rw [s3, s2.1]; exact h1, h2⟩]
    exact h3
  refine ⟨g3, ?_, ⟨Kp_g hK (by rw [s3, s2.1]; omega), fun a ha hn => ⟨hn, ?_⟩, by rw [s3, s2.1]; omega, by rw [s3, s2.2.1]; omega, by rw [s3, s2.2.2]; omega⟩, ⟨g.2.1 + 1, 0, 0, f, vw _ _ (by omega) o0 c3, vw _ _ (by omega) o1 ?_, fun j c hj => ?_, by omega, Or.inl rfl, Or.inl rfl⟩⟩
  · have hlat := sb_lat (g := g1) (E := E) hp hS
    unfold f_J8_toString f_J8_toString_b0 f_J9_init f_J9_init_b0 f_J9_init_2 f_J9_init_2_b0 f_J9_init_2_b97 f_J7_getValue f_J7_getValue_b0
    rw [e1, b2_some, c_cko hp h1, b1_some, c_gR hp h1 rfl h2, b1_some, b2_some, c_cko hp h1, b1_some, sb_len hp hS, b2_some, c_cko hp h1, b1_some, hlat, b2_some, if_neg (by decide), e2, b1_some, e3, b2_some, e4, b1_some, b2_some, b2_some]
  · rw [f3 a (by omega), f2 a (by omega), f1 a (by omega)]
  · rw [f3 _ (by omega), c2, hl]
  · have w : j < L := by
      rw [← hl]
      exact Decidable.by_contra fun n => by rw [List.getElem?_eq_none (by omega)] at hj; cases hj
    rw [hf j w]
    exact hb j c hj
end SB
