/-! the component on tables (printed by c2.py) -/
set_option maxRecDepth 100000
section
variable {p : cP} {N : iN} {r : Int32} {s9 : cT} {g9 : zH}
def c_X1_month_b0 (E : zE) (N : iN) (s : cT) (g : zH) : Option (Int32 × (cT × zH)) :=
  some ((s.2.1 (N.1 + 10) 5), (s, g))
theorem cs_X1_month_b0 (E : zE) {s : cT} {g : zH} (h : iH p s g N) (hf : c_X1_month_b0 E N  s g = some (r, (s9, g9))) : f_X1_month_b0 E (p.1 1) (cH p s g) = some (r, cH p s9 g9) ∧ iH p s9 g9 N := by
  unfold c_X1_month_b0 at hf
  unfold f_X1_month_b0
  refine kb1 (a_X_R1 h) ?_
  refine kb1 (a_Bk_I5 h) ?_
  cases hf
  exact ⟨rfl, h⟩
def c_X1_month (E : zE) (N : iN) (s : cT) (g : zH) : Option (Int32 × (cT × zH)) :=
  c_X1_month_b0 E N s g
theorem cs_X1_month (E : zE) {s : cT} {g : zH} (h : iH p s g N) (hf : c_X1_month E N  s g = some (r, (s9, g9))) : f_X1_month E (p.1 1) (cH p s g) = some (r, cH p s9 g9) ∧ iH p s9 g9 N := by
  unfold c_X1_month at hf
  unfold f_X1_month
  exact cs_X1_month_b0 E h hf
end
section
variable {p : cP} {N : iN} {r : Int64} {s9 : cT} {g9 : zH}
def c_X11_salesOf_l5 (E : zE) (N : iN) : Nat → Nat → Int32 → Int64 → Int32 → cT → zH → Option (Int64 × (cT × zH))
  | 0, _, _, _, _, _, _ => none
  | n + 1, p0, p1, p2, p4, s, g =>
    if p1 ≤ p4 then (
      some (p2, (s, g))
    ) else (
      (cdL s (N.1 + 160 + p0) 60 p4).bind fun x4 =>
      c_X11_salesOf_l5 E N n p0 p1 (p2 + x4) (p4 + 1) s g
    )
theorem cs_X11_salesOf_l5 (E : zE) : ∀ (n : Nat) {s : cT} {g : zH} (h : iH p s g N) {p0 : Nat} {p1 : Int32} {p2 : Int64} {p4 : Int32} (hi_p0 : p0 < N.2.1), c_X11_salesOf_l5 E N n p0 p1 p2 p4 s g = some (r, (s9, g9)) → f_X11_salesOf_l5 E n (p.1 (N.1 + 130 + p0)) p1 p2 p4 (cH p s g) = some (r, cH p s9 g9) ∧ iH p s9 g9 N := by
  intro n
  induction n with
  | zero =>
    intro s g h p0 p1 p2 p4 hi_p0 hf
    cases hf
  | succ n ih =>
    intro s g h p0 p1 p2 p4 hi_p0 hf
    unfold c_X11_salesOf_l5 at hf
    unfold f_X11_salesOf_l5
    by_cases c8 : p1 ≤ p4
    · have hf := zif_t c8 hf
      refine kif_t c8 ?_
      cases hf
      exact ⟨rfl, h⟩
    · have hf := zif_f c8 hf
      refine kif_f c8 ?_
      refine kb1 (a_Fr_R2 h hi_p0) ?_
      obtain ⟨x4, e9, hf⟩ := zbind hf
      obtain ⟨hj10, e9⟩ := cdL_spec e9
      refine kb1 ((a_sal_d h hi_p0 hj10).trans (congrArg some e9)) ?_
      exact ih h hi_p0 hf
def c_X11_salesOf_b0 (E : zE) (N : iN) (p0 : Nat) (p1 : Int32) (s : cT) (g : zH) : Option (Int64 × (cT × zH)) :=
  c_X11_salesOf_l5 E N E.1 p0 p1 (0 : Int64) (0 : Int32) s g
theorem cs_X11_salesOf_b0 (E : zE) {s : cT} {g : zH} (h : iH p s g N) {p0 : Nat} {p1 : Int32} (hi_p0 : p0 < N.2.1) (hf : c_X11_salesOf_b0 E N p0 p1 s g = some (r, (s9, g9))) : f_X11_salesOf_b0 E (p.1 (N.1 + 130 + p0)) p1 (cH p s g) = some (r, cH p s9 g9) ∧ iH p s9 g9 N := by
  unfold c_X11_salesOf_b0 at hf
  unfold f_X11_salesOf_b0
  exact cs_X11_salesOf_l5 E E.1 h hi_p0 hf
def c_X11_salesOf (E : zE) (N : iN) (p0 : Nat) (p1 : Int32) (s : cT) (g : zH) : Option (Int64 × (cT × zH)) :=
  c_X11_salesOf_b0 E N p0 p1 s g
theorem cs_X11_salesOf (E : zE) {s : cT} {g : zH} (h : iH p s g N) {p0 : Nat} {p1 : Int32} (hi_p0 : p0 < N.2.1) (hf : c_X11_salesOf E N p0 p1 s g = some (r, (s9, g9))) : f_X11_salesOf E (p.1 (N.1 + 130 + p0)) p1 (cH p s g) = some (r, cH p s9 g9) ∧ iH p s9 g9 N := by
  unfold c_X11_salesOf at hf
  unfold f_X11_salesOf
  exact cs_X11_salesOf_b0 E h hi_p0 hf
end
section
variable {p : cP} {N : iN} {r : Int32} {s9 : cT} {g9 : zH}
def c_X1_ranked_b125 (E : zE) (N : iN) (k2 : Int32 → Int32 → cT → zH → Option (Int32 × (cT × zH))) (k51 : Int32 → Int32 → Int32 → Int64 → Int32 → cT → zH → Option (Int32 × (cT × zH))) (p1 : Int32) (p2 : Int32) (p4 : Int64) (p6 : Int32) (s0 : Int32) (s1 : Int32) (s : cT) (g : zH) : Option (Int32 × (cT × zH)) :=
  k51 p1 p2 (s0 + s1) p4 (p6 + 1) s g
theorem cs_X1_ranked_b125 (E : zE) {K2 : Nat → Int32 → Int32 → zH → Option (Int32 × zH)} {k2 : Int32 → Int32 → cT → zH → Option (Int32 × (cT × zH))} (hk2 : ∀ {s : cT} {g : zH} (h : iH p s g N) {p1 : Int32} {p2 : Int32}, k2 p1 p2 s g = some (r, (s9, g9)) → K2 (p.1 1) p1 p2 (cH p s g) = some (r, cH p s9 g9) ∧ iH p s9 g9 N) {K51 : Nat → Int32 → Int32 → Int32 → Int64 → Int32 → zH → Option (Int32 × zH)} {k51 : Int32 → Int32 → Int32 → Int64 → Int32 → cT → zH → Option (Int32 × (cT × zH))} (hk51 : ∀ {s : cT} {g : zH} (h : iH p s g N) {p1 : Int32} {p2 : Int32} {p3 : Int32} {p4 : Int64} {p6 : Int32}, k51 p1 p2 p3 p4 p6 s g = some (r, (s9, g9)) → K51 (p.1 1) p1 p2 p3 p4 p6 (cH p s g) = some (r, cH p s9 g9) ∧ iH p s9 g9 N) {s : cT} {g : zH} (h : iH p s g N) {p1 : Int32} {p2 : Int32} {p4 : Int64} {p6 : Int32} {s0 : Int32} {s1 : Int32} (hf : c_X1_ranked_b125 E N k2 k51 p1 p2 p4 p6 s0 s1 s g = some (r, (s9, g9))) : f_X1_ranked_b125 E K2 K51 (p.1 1) p1 p2 p4 p6 s0 s1 (cH p s g) = some (r, cH p s9 g9) ∧ iH p s9 g9 N := by
  unfold c_X1_ranked_b125 at hf
  unfold f_X1_ranked_b125
  exact hk51 h hf
def c_X1_ranked_b120 (E : zE) (N : iN) (k2 : Int32 → Int32 → cT → zH → Option (Int32 × (cT × zH))) (k51 : Int32 → Int32 → Int32 → Int64 → Int32 → cT → zH → Option (Int32 × (cT × zH))) (p1 : Int32) (p2 : Int32) (p4 : Int64) (p6 : Int32) (s0 : Int32) (s : cT) (g : zH) : Option (Int32 × (cT × zH)) :=
  c_X1_ranked_b125 E N k2 k51 p1 p2 p4 p6 s0 (1 : Int32) s g
theorem cs_X1_ranked_b120 (E : zE) {K2 : Nat → Int32 → Int32 → zH → Option (Int32 × zH)} {k2 : Int32 → Int32 → cT → zH → Option (Int32 × (cT × zH))} (hk2 : ∀ {s : cT} {g : zH} (h : iH p s g N) {p1 : Int32} {p2 : Int32}, k2 p1 p2 s g = some (r, (s9, g9)) → K2 (p.1 1) p1 p2 (cH p s g) = some (r, cH p s9 g9) ∧ iH p s9 g9 N) {K51 : Nat → Int32 → Int32 → Int32 → Int64 → Int32 → zH → Option (Int32 × zH)} {k51 : Int32 → Int32 → Int32 → Int64 → Int32 → cT → zH → Option (Int32 × (cT × zH))} (hk51 : ∀ {s : cT} {g : zH} (h : iH p s g N) {p1 : Int32} {p2 : Int32} {p3 : Int32} {p4 : Int64} {p6 : Int32}, k51 p1 p2 p3 p4 p6 s g = some (r, (s9, g9)) → K51 (p.1 1) p1 p2 p3 p4 p6 (cH p s g) = some (r, cH p s9 g9) ∧ iH p s9 g9 N) {s : cT} {g : zH} (h : iH p s g N) {p1 : Int32} {p2 : Int32} {p4 : Int64} {p6 : Int32} {s0 : Int32} (hf : c_X1_ranked_b120 E N k2 k51 p1 p2 p4 p6 s0 s g = some (r, (s9, g9))) : f_X1_ranked_b120 E K2 K51 (p.1 1) p1 p2 p4 p6 s0 (cH p s g) = some (r, cH p s9 g9) ∧ iH p s9 g9 N := by
  unfold c_X1_ranked_b120 at hf
  unfold f_X1_ranked_b120
  exact cs_X1_ranked_b125 E hk2 hk51 h hf
def c_X1_ranked_b124 (E : zE) (N : iN) (k2 : Int32 → Int32 → cT → zH → Option (Int32 × (cT × zH))) (k51 : Int32 → Int32 → Int32 → Int64 → Int32 → cT → zH → Option (Int32 × (cT × zH))) (p1 : Int32) (p2 : Int32) (p4 : Int64) (p6 : Int32) (s0 : Int32) (s : cT) (g : zH) : Option (Int32 × (cT × zH)) :=
  c_X1_ranked_b125 E N k2 k51 p1 p2 p4 p6 s0 (0 : Int32) s g
theorem cs_X1_ranked_b124 (E : zE) {K2 : Nat → Int32 → Int32 → zH → Option (Int32 × zH)} {k2 : Int32 → Int32 → cT → zH → Option (Int32 × (cT × zH))} (hk2 : ∀ {s : cT} {g : zH} (h : iH p s g N) {p1 : Int32} {p2 : Int32}, k2 p1 p2 s g = some (r, (s9, g9)) → K2 (p.1 1) p1 p2 (cH p s g) = some (r, cH p s9 g9) ∧ iH p s9 g9 N) {K51 : Nat → Int32 → Int32 → Int32 → Int64 → Int32 → zH → Option (Int32 × zH)} {k51 : Int32 → Int32 → Int32 → Int64 → Int32 → cT → zH → Option (Int32 × (cT × zH))} (hk51 : ∀ {s : cT} {g : zH} (h : iH p s g N) {p1 : Int32} {p2 : Int32} {p3 : Int32} {p4 : Int64} {p6 : Int32}, k51 p1 p2 p3 p4 p6 s g = some (r, (s9, g9)) → K51 (p.1 1) p1 p2 p3 p4 p6 (cH p s g) = some (r, cH p s9 g9) ∧ iH p s9 g9 N) {s : cT} {g : zH} (h : iH p s g N) {p1 : Int32} {p2 : Int32} {p4 : Int64} {p6 : Int32} {s0 : Int32} (hf : c_X1_ranked_b124 E N k2 k51 p1 p2 p4 p6 s0 s g = some (r, (s9, g9))) : f_X1_ranked_b124 E K2 K51 (p.1 1) p1 p2 p4 p6 s0 (cH p s g) = some (r, cH p s9 g9) ∧ iH p s9 g9 N := by
  unfold c_X1_ranked_b124 at hf
  unfold f_X1_ranked_b124
  exact cs_X1_ranked_b125 E hk2 hk51 h hf
def c_X1_ranked_l51 (E : zE) (N : iN) (k2 : Int32 → Int32 → cT → zH → Option (Int32 × (cT × zH))) : Nat → Int32 → Int32 → Int32 → Int64 → Int32 → cT → zH → Option (Int32 × (cT × zH))
  | 0, _, _, _, _, _, _, _ => none
  | n + 1, p1, p2, p3, p4, p6, s, g =>
    if (Int32.ofNat N.2.1) ≤ p6 then (
      if p3 = p1 then (
        some (p2, (s, g))
      ) else (
        k2 p1 (p2 + 1) s g
      )
    ) else (
      (cGet N.2.1 p6).bind fun i15 =>
      bnd2 (c_X11_salesOf E N i15 (s.2.1 (N.1 + 10) 5) s g) fun x27 z17 =>
      if p4 < x27 then (
        c_X1_ranked_b120 E N k2 (c_X1_ranked_l51 E N k2 n) p1 p2 p4 p6 p3 z17.1 z17.2
      ) else (
        if x27 = p4 then (
          if p2 ≤ p6 then (
            c_X1_ranked_b124 E N k2 (c_X1_ranked_l51 E N k2 n) p1 p2 p4 p6 p3 z17.1 z17.2
          ) else (
            c_X1_ranked_b120 E N k2 (c_X1_ranked_l51 E N k2 n) p1 p2 p4 p6 p3 z17.1 z17.2
          )
        ) else (
          c_X1_ranked_b124 E N k2 (c_X1_ranked_l51 E N k2 n) p1 p2 p4 p6 p3 z17.1 z17.2
        )
      )
    )
theorem cs_X1_ranked_l51 (E : zE) {K2 : Nat → Int32 → Int32 → zH → Option (Int32 × zH)} {k2 : Int32 → Int32 → cT → zH → Option (Int32 × (cT × zH))} (hk2 : ∀ {s : cT} {g : zH} (h : iH p s g N) {p1 : Int32} {p2 : Int32}, k2 p1 p2 s g = some (r, (s9, g9)) → K2 (p.1 1) p1 p2 (cH p s g) = some (r, cH p s9 g9) ∧ iH p s9 g9 N) : ∀ (n : Nat) {s : cT} {g : zH} (h : iH p s g N) {p1 : Int32} {p2 : Int32} {p3 : Int32} {p4 : Int64} {p6 : Int32}, c_X1_ranked_l51 E N k2 n p1 p2 p3 p4 p6 s g = some (r, (s9, g9)) → f_X1_ranked_l51 E K2 n (p.1 1) p1 p2 p3 p4 p6 (cH p s g) = some (r, cH p s9 g9) ∧ iH p s9 g9 N := by
  intro n
  induction n with
  | zero =>
    intro s g h p1 p2 p3 p4 p6 hf
    cases hf
  | succ n ih =>
    intro s g h p1 p2 p3 p4 p6 hf
    unfold c_X1_ranked_l51 at hf
    unfold f_X1_ranked_l51
    refine kb1 (a_X_R1 h) ?_
    refine kb1 (a_Bk_R0 h) ?_
    refine kb1 (a_FL_ck h) ?_
    refine kbc (a_FL_n h E) ?_
    by_cases c12 : (Int32.ofNat N.2.1) ≤ p6
    · have hf := zif_t c12 hf
      refine kif_t c12 ?_
      by_cases c13 : p3 = p1
      · have hf := zif_t c13 hf
        refine kif_t c13 ?_
        cases hf
        exact ⟨rfl, h⟩
      · have hf := zif_f c13 hf
        refine kif_f c13 ?_
        exact hk2 h hf
    · have hf := zif_f c12 hf
      refine kif_f c12 ?_
      refine kb1 (a_X_R1 h) ?_
      refine kb1 (a_Bk_R0 h) ?_
      refine kb1 (a_FL_ck h) ?_
      obtain ⟨i15, e14, hf⟩ := zbind hf
      have hi_i15 := cGet_lt e14
      refine kbc (a_FL_G h E e14) ?_
      refine kb1 (a_Fr_ck h hi_i15) ?_
      refine kb1 (a_X_R1 h) ?_
      refine kb1 (a_Bk_I5 h) ?_
      refine kb1 (a_Fr_ck h hi_i15) ?_
      obtain ⟨x27, z17, e16, hf⟩ := zbind2 hf
      obtain ⟨e16, h⟩ := cs_X11_salesOf E h hi_i15 e16
      refine kbc e16 ?_
      by_cases c19 : p4 < x27
      · have hf := zif_t c19 hf
        refine kif_t c19 ?_
        exact cs_X1_ranked_b120 E hk2 ih h hf
      · have hf := zif_f c19 hf
        refine kif_f c19 ?_
        by_cases c20 : x27 = p4
        · have hf := zif_t c20 hf
          refine kif_t c20 ?_
          by_cases c21 : p2 ≤ p6
          · have hf := zif_t c21 hf
            refine kif_t c21 ?_
            exact cs_X1_ranked_b124 E hk2 ih h hf
          · have hf := zif_f c21 hf
            refine kif_f c21 ?_
            exact cs_X1_ranked_b120 E hk2 ih h hf
        · have hf := zif_f c20 hf
          refine kif_f c20 ?_
          exact cs_X1_ranked_b124 E hk2 ih h hf
def c_X1_ranked_l2 (E : zE) (N : iN) : Nat → Int32 → Int32 → cT → zH → Option (Int32 × (cT × zH))
  | 0, _, _, _, _ => none
  | n + 1, p1, p2, s, g =>
    if (Int32.ofNat N.2.1) ≤ p2 then (
      some ((-1 : Int32), (s, g))
    ) else (
      (cGet N.2.1 p2).bind fun i25 =>
      bnd2 (c_X11_salesOf E N i25 (s.2.1 (N.1 + 10) 5) s g) fun x26 z27 =>
      c_X1_ranked_l51 E N (c_X1_ranked_l2 E N n) E.1 p1 p2 (0 : Int32) x26 (0 : Int32) z27.1 z27.2
    )
theorem cs_X1_ranked_l2 (E : zE) : ∀ (n : Nat) {s : cT} {g : zH} (h : iH p s g N) {p1 : Int32} {p2 : Int32}, c_X1_ranked_l2 E N n p1 p2 s g = some (r, (s9, g9)) → f_X1_ranked_l2 E n (p.1 1) p1 p2 (cH p s g) = some (r, cH p s9 g9) ∧ iH p s9 g9 N := by
  intro n
  induction n with
  | zero =>
    intro s g h p1 p2 hf
    cases hf
  | succ n ih =>
    intro s g h p1 p2 hf
    unfold c_X1_ranked_l2 at hf
    unfold f_X1_ranked_l2
    refine kb1 (a_X_R1 h) ?_
    refine kb1 (a_Bk_R0 h) ?_
    refine kb1 (a_FL_ck h) ?_
    refine kbc (a_FL_n h E) ?_
    by_cases c23 : (Int32.ofNat N.2.1) ≤ p2
    · have hf := zif_t c23 hf
      refine kif_t c23 ?_
      cases hf
      exact ⟨rfl, h⟩
    · have hf := zif_f c23 hf
      refine kif_f c23 ?_
      refine kb1 (a_X_R1 h) ?_
      refine kb1 (a_Bk_R0 h) ?_
      refine kb1 (a_FL_ck h) ?_
      obtain ⟨i25, e24, hf⟩ := zbind hf
      have hi_i25 := cGet_lt e24
      refine kbc (a_FL_G h E e24) ?_
      refine kb1 (a_Fr_ck h hi_i25) ?_
      refine kb1 (a_X_R1 h) ?_
      refine kb1 (a_Bk_I5 h) ?_
      refine kb1 (a_Fr_ck h hi_i25) ?_
      obtain ⟨x26, z27, e26, hf⟩ := zbind2 hf
      obtain ⟨e26, h⟩ := cs_X11_salesOf E h hi_i25 e26
      refine kbc e26 ?_
      exact cs_X1_ranked_l51 E ih E.1 h hf
def c_X1_ranked_b0 (E : zE) (N : iN) (p1 : Int32) (s : cT) (g : zH) : Option (Int32 × (cT × zH)) :=
  c_X1_ranked_l2 E N E.1 p1 (0 : Int32) s g
theorem cs_X1_ranked_b0 (E : zE) {s : cT} {g : zH} (h : iH p s g N) {p1 : Int32} (hf : c_X1_ranked_b0 E N p1 s g = some (r, (s9, g9))) : f_X1_ranked_b0 E (p.1 1) p1 (cH p s g) = some (r, cH p s9 g9) ∧ iH p s9 g9 N := by
  unfold c_X1_ranked_b0 at hf
  unfold f_X1_ranked_b0
  exact cs_X1_ranked_l2 E E.1 h hf
def c_X1_ranked (E : zE) (N : iN) (p1 : Int32) (s : cT) (g : zH) : Option (Int32 × (cT × zH)) :=
  c_X1_ranked_b0 E N p1 s g
theorem cs_X1_ranked (E : zE) {s : cT} {g : zH} (h : iH p s g N) {p1 : Int32} (hf : c_X1_ranked E N p1 s g = some (r, (s9, g9))) : f_X1_ranked E (p.1 1) p1 (cH p s g) = some (r, cH p s9 g9) ∧ iH p s9 g9 N := by
  unfold c_X1_ranked at hf
  unfold f_X1_ranked
  exact cs_X1_ranked_b0 E h hf
end
section
variable {p : cP} {N : iN} {r : Int64} {s9 : cT} {g9 : zH}
def c_J12_max_2_b11 (E : zE) (N : iN) (s0 : Int64) (s : cT) (g : zH) : Option (Int64 × (cT × zH)) :=
  some (s0, (s, g))
theorem cs_J12_max_2_b11 (E : zE) {s : cT} {g : zH} (h : iH p s g N) {s0 : Int64} (hf : c_J12_max_2_b11 E N s0 s g = some (r, (s9, g9))) : f_J12_max_2_b11 E s0 (cH p s g) = some (r, cH p s9 g9) ∧ iH p s9 g9 N := by
  unfold c_J12_max_2_b11 at hf
  unfold f_J12_max_2_b11
  cases hf
  exact ⟨rfl, h⟩
def c_J12_max_2_b0 (E : zE) (N : iN) (p0 : Int64) (p2 : Int64) (s : cT) (g : zH) : Option (Int64 × (cT × zH)) :=
  if p0 < p2 then (
    c_J12_max_2_b11 E N p2 s g
  ) else (
    c_J12_max_2_b11 E N p0 s g
  )
theorem cs_J12_max_2_b0 (E : zE) {s : cT} {g : zH} (h : iH p s g N) {p0 : Int64} {p2 : Int64} (hf : c_J12_max_2_b0 E N p0 p2 s g = some (r, (s9, g9))) : f_J12_max_2_b0 E p0 p2 (cH p s g) = some (r, cH p s9 g9) ∧ iH p s9 g9 N := by
  unfold c_J12_max_2_b0 at hf
  unfold f_J12_max_2_b0
  by_cases c29 : p0 < p2
  · have hf := zif_t c29 hf
    refine kif_t c29 ?_
    exact cs_J12_max_2_b11 E h hf
  · have hf := zif_f c29 hf
    refine kif_f c29 ?_
    exact cs_J12_max_2_b11 E h hf
def c_J12_max_2 (E : zE) (N : iN) (p0 : Int64) (p2 : Int64) (s : cT) (g : zH) : Option (Int64 × (cT × zH)) :=
  c_J12_max_2_b0 E N p0 p2 s g
theorem cs_J12_max_2 (E : zE) {s : cT} {g : zH} (h : iH p s g N) {p0 : Int64} {p2 : Int64} (hf : c_J12_max_2 E N p0 p2 s g = some (r, (s9, g9))) : f_J12_max_2 E p0 p2 (cH p s g) = some (r, cH p s9 g9) ∧ iH p s9 g9 N := by
  unfold c_J12_max_2 at hf
  unfold f_J12_max_2
  exact cs_J12_max_2_b0 E h hf
end
section
variable {p : cP} {N : iN} {r : Int64} {s9 : cT} {g9 : zH}
def c_X1_totalOwed_l4 (E : zE) (N : iN) : Nat → Int64 → Int32 → cT → zH → Option (Int64 × (cT × zH))
  | 0, _, _, _, _ => none
  | n + 1, p1, p3, s, g =>
    if (Int32.ofNat N.2.1) ≤ p3 then (
      some (p1, (s, g))
    ) else (
      (cGet N.2.1 p3).bind fun i33 =>
      bnd2 (c_J12_max_2 E N (0 : Int64) (s.2.2.1 (N.1 + 130 + i33) 8) s g) fun x23 z35 =>
      c_X1_totalOwed_l4 E N n (p1 + x23) (p3 + 1) z35.1 z35.2
    )
theorem cs_X1_totalOwed_l4 (E : zE) : ∀ (n : Nat) {s : cT} {g : zH} (h : iH p s g N) {p1 : Int64} {p3 : Int32}, c_X1_totalOwed_l4 E N n p1 p3 s g = some (r, (s9, g9)) → f_X1_totalOwed_l4 E n (p.1 1) p1 p3 (cH p s g) = some (r, cH p s9 g9) ∧ iH p s9 g9 N := by
  intro n
  induction n with
  | zero =>
    intro s g h p1 p3 hf
    cases hf
  | succ n ih =>
    intro s g h p1 p3 hf
    unfold c_X1_totalOwed_l4 at hf
    unfold f_X1_totalOwed_l4
    refine kb1 (a_X_R1 h) ?_
    refine kb1 (a_Bk_R0 h) ?_
    refine kb1 (a_FL_ck h) ?_
    refine kbc (a_FL_n h E) ?_
    by_cases c31 : (Int32.ofNat N.2.1) ≤ p3
    · have hf := zif_t c31 hf
      refine kif_t c31 ?_
      cases hf
      exact ⟨rfl, h⟩
    · have hf := zif_f c31 hf
      refine kif_f c31 ?_
      refine kb1 (a_X_R1 h) ?_
      refine kb1 (a_Bk_R0 h) ?_
      refine kb1 (a_FL_ck h) ?_
      obtain ⟨i33, e32, hf⟩ := zbind hf
      have hi_i33 := cGet_lt e32
      refine kbc (a_FL_G h E e32) ?_
      refine kb1 (a_Fr_ck h hi_i33) ?_
      refine kb1 (a_Fr_L8 h hi_i33) ?_
      obtain ⟨x23, z35, e34, hf⟩ := zbind2 hf
      obtain ⟨e34, h⟩ := cs_J12_max_2 E h e34
      refine kbc e34 ?_
      exact ih h hf
def c_X1_totalOwed_b0 (E : zE) (N : iN) (s : cT) (g : zH) : Option (Int64 × (cT × zH)) :=
  c_X1_totalOwed_l4 E N E.1 (0 : Int64) (0 : Int32) s g
theorem cs_X1_totalOwed_b0 (E : zE) {s : cT} {g : zH} (h : iH p s g N) (hf : c_X1_totalOwed_b0 E N  s g = some (r, (s9, g9))) : f_X1_totalOwed_b0 E (p.1 1) (cH p s g) = some (r, cH p s9 g9) ∧ iH p s9 g9 N := by
  unfold c_X1_totalOwed_b0 at hf
  unfold f_X1_totalOwed_b0
  exact cs_X1_totalOwed_l4 E E.1 h hf
def c_X1_totalOwed (E : zE) (N : iN) (s : cT) (g : zH) : Option (Int64 × (cT × zH)) :=
  c_X1_totalOwed_b0 E N s g
theorem cs_X1_totalOwed (E : zE) {s : cT} {g : zH} (h : iH p s g N) (hf : c_X1_totalOwed E N  s g = some (r, (s9, g9))) : f_X1_totalOwed E (p.1 1) (cH p s g) = some (r, cH p s9 g9) ∧ iH p s9 g9 N := by
  unfold c_X1_totalOwed at hf
  unfold f_X1_totalOwed
  exact cs_X1_totalOwed_b0 E h hf
end
section
variable {p : cP} {N : iN} {r : Int64} {s9 : cT} {g9 : zH}
def c_X4_contributions_l4 (E : zE) (N : iN) : Nat → Int64 → Int32 → cT → zH → Option (Int64 × (cT × zH))
  | 0, _, _, _, _ => none
  | n + 1, p1, p3, s, g =>
    if (Int32.ofNat N.2.1) ≤ p3 then (
      some (p1, (s, g))
    ) else (
      (cGet N.2.1 p3).bind fun i40 =>
      c_X4_contributions_l4 E N n (p1 + (s.2.2.1 (N.1 + 130 + i40) 9)) (p3 + 1) s g
    )
theorem cs_X4_contributions_l4 (E : zE) : ∀ (n : Nat) {s : cT} {g : zH} (h : iH p s g N) {p1 : Int64} {p3 : Int32}, c_X4_contributions_l4 E N n p1 p3 s g = some (r, (s9, g9)) → f_X4_contributions_l4 E n (p.1 (N.1 + 10)) p1 p3 (cH p s g) = some (r, cH p s9 g9) ∧ iH p s9 g9 N := by
  intro n
  induction n with
  | zero =>
    intro s g h p1 p3 hf
    cases hf
  | succ n ih =>
    intro s g h p1 p3 hf
    unfold c_X4_contributions_l4 at hf
    unfold f_X4_contributions_l4
    refine kb1 (a_Bk_R0 h) ?_
    refine kb1 (a_FL_ck h) ?_
    refine kbc (a_FL_n h E) ?_
    by_cases c38 : (Int32.ofNat N.2.1) ≤ p3
    · have hf := zif_t c38 hf
      refine kif_t c38 ?_
      cases hf
      exact ⟨rfl, h⟩
    · have hf := zif_f c38 hf
      refine kif_f c38 ?_
      refine kb1 (a_Bk_R0 h) ?_
      refine kb1 (a_FL_ck h) ?_
      obtain ⟨i40, e39, hf⟩ := zbind hf
      have hi_i40 := cGet_lt e39
      refine kbc (a_FL_G h E e39) ?_
      refine kb1 (a_Fr_ck h hi_i40) ?_
      refine kb1 (a_Fr_L9 h hi_i40) ?_
      exact ih h hf
def c_X4_contributions_b0 (E : zE) (N : iN) (s : cT) (g : zH) : Option (Int64 × (cT × zH)) :=
  c_X4_contributions_l4 E N E.1 (0 : Int64) (0 : Int32) s g
theorem cs_X4_contributions_b0 (E : zE) {s : cT} {g : zH} (h : iH p s g N) (hf : c_X4_contributions_b0 E N  s g = some (r, (s9, g9))) : f_X4_contributions_b0 E (p.1 (N.1 + 10)) (cH p s g) = some (r, cH p s9 g9) ∧ iH p s9 g9 N := by
  unfold c_X4_contributions_b0 at hf
  unfold f_X4_contributions_b0
  exact cs_X4_contributions_l4 E E.1 h hf
def c_X4_contributions (E : zE) (N : iN) (s : cT) (g : zH) : Option (Int64 × (cT × zH)) :=
  c_X4_contributions_b0 E N s g
theorem cs_X4_contributions (E : zE) {s : cT} {g : zH} (h : iH p s g N) (hf : c_X4_contributions E N  s g = some (r, (s9, g9))) : f_X4_contributions E (p.1 (N.1 + 10)) (cH p s g) = some (r, cH p s9 g9) ∧ iH p s9 g9 N := by
  unfold c_X4_contributions at hf
  unfold f_X4_contributions
  exact cs_X4_contributions_b0 E h hf
end
section
variable {p : cP} {N : iN} {r : Int64} {s9 : cT} {g9 : zH}
def c_X4_fund_b0 (E : zE) (N : iN) (s : cT) (g : zH) : Option (Int64 × (cT × zH)) :=
  bnd2 (c_X4_contributions E N s g) fun x4 z42 =>
  (cdL z42.1 (N.1 + 20) 3 (0 : Int32)).bind fun x7 =>
  (cdL z42.1 (N.1 + 20) 3 (1 : Int32)).bind fun x11 =>
  (cdL z42.1 (N.1 + 20) 3 (2 : Int32)).bind fun x15 =>
  some ((((x4 - x7) - x11) - x15), (z42.1, z42.2))
theorem cs_X4_fund_b0 (E : zE) {s : cT} {g : zH} (h : iH p s g N) (hf : c_X4_fund_b0 E N  s g = some (r, (s9, g9))) : f_X4_fund_b0 E (p.1 (N.1 + 10)) (cH p s g) = some (r, cH p s9 g9) ∧ iH p s9 g9 N := by
  unfold c_X4_fund_b0 at hf
  unfold f_X4_fund_b0
  refine kb1 (a_Bk_ck h) ?_
  obtain ⟨x4, z42, e41, hf⟩ := zbind2 hf
  obtain ⟨e41, h⟩ := cs_X4_contributions E h e41
  refine kbc e41 ?_
  refine kb1 (a_Bk_R4 h) ?_
  obtain ⟨x7, e44, hf⟩ := zbind hf
  obtain ⟨hj45, e44⟩ := cdL_spec e44
  refine kb1 ((a_spe_d h hj45).trans (congrArg some e44)) ?_
  refine kb1 (a_Bk_R4 h) ?_
  obtain ⟨x11, e46, hf⟩ := zbind hf
  obtain ⟨hj47, e46⟩ := cdL_spec e46
  refine kb1 ((a_spe_d h hj47).trans (congrArg some e46)) ?_
  refine kb1 (a_Bk_R4 h) ?_
  obtain ⟨x15, e48, hf⟩ := zbind hf
  obtain ⟨hj49, e48⟩ := cdL_spec e48
  refine kb1 ((a_spe_d h hj49).trans (congrArg some e48)) ?_
  cases hf
  exact ⟨rfl, h⟩
def c_X4_fund (E : zE) (N : iN) (s : cT) (g : zH) : Option (Int64 × (cT × zH)) :=
  c_X4_fund_b0 E N s g
theorem cs_X4_fund (E : zE) {s : cT} {g : zH} (h : iH p s g N) (hf : c_X4_fund E N  s g = some (r, (s9, g9))) : f_X4_fund E (p.1 (N.1 + 10)) (cH p s g) = some (r, cH p s9 g9) ∧ iH p s9 g9 N := by
  unfold c_X4_fund at hf
  unfold f_X4_fund
  exact cs_X4_fund_b0 E h hf
end
section
variable {p : cP} {N : iN} {r : Int64} {s9 : cT} {g9 : zH}
def c_X1_fundBalance_b0 (E : zE) (N : iN) (s : cT) (g : zH) : Option (Int64 × (cT × zH)) :=
  bnd2 (c_X4_fund E N s g) fun x6 z51 =>
  some (x6, (z51.1, z51.2))
theorem cs_X1_fundBalance_b0 (E : zE) {s : cT} {g : zH} (h : iH p s g N) (hf : c_X1_fundBalance_b0 E N  s g = some (r, (s9, g9))) : f_X1_fundBalance_b0 E (p.1 1) (cH p s g) = some (r, cH p s9 g9) ∧ iH p s9 g9 N := by
  unfold c_X1_fundBalance_b0 at hf
  unfold f_X1_fundBalance_b0
  refine kb1 (a_X_R1 h) ?_
  refine kb1 (a_Bk_ck h) ?_
  obtain ⟨x6, z51, e50, hf⟩ := zbind2 hf
  obtain ⟨e50, h⟩ := cs_X4_fund E h e50
  refine kbc e50 ?_
  cases hf
  exact ⟨rfl, h⟩
def c_X1_fundBalance (E : zE) (N : iN) (s : cT) (g : zH) : Option (Int64 × (cT × zH)) :=
  c_X1_fundBalance_b0 E N s g
theorem cs_X1_fundBalance (E : zE) {s : cT} {g : zH} (h : iH p s g N) (hf : c_X1_fundBalance E N  s g = some (r, (s9, g9))) : f_X1_fundBalance E (p.1 1) (cH p s g) = some (r, cH p s9 g9) ∧ iH p s9 g9 N := by
  unfold c_X1_fundBalance at hf
  unfold f_X1_fundBalance
  exact cs_X1_fundBalance_b0 E h hf
end
section
variable {p : cP} {N : iN} {r : Int32} {s9 : cT} {g9 : zH}
def c_X1_inRange_b18 (E : zE) (N : iN) (s0 : Int32) (s : cT) (g : zH) : Option (Int32 × (cT × zH)) :=
  (zgd .boolean s0).bind fun _ =>
  some (s0, (s, g))
theorem cs_X1_inRange_b18 (E : zE) {s : cT} {g : zH} (h : iH p s g N) {s0 : Int32} (hf : c_X1_inRange_b18 E N s0 s g = some (r, (s9, g9))) : f_X1_inRange_b18 E s0 (cH p s g) = some (r, cH p s9 g9) ∧ iH p s9 g9 N := by
  unfold c_X1_inRange_b18 at hf
  unfold f_X1_inRange_b18
  obtain ⟨_, e53, hf⟩ := zbind hf
  refine kb1 e53 ?_
  cases hf
  exact ⟨rfl, h⟩
def c_X1_inRange_b17 (E : zE) (N : iN) (s : cT) (g : zH) : Option (Int32 × (cT × zH)) :=
  c_X1_inRange_b18 E N (0 : Int32) s g
theorem cs_X1_inRange_b17 (E : zE) {s : cT} {g : zH} (h : iH p s g N) (hf : c_X1_inRange_b17 E N  s g = some (r, (s9, g9))) : f_X1_inRange_b17 E  (cH p s g) = some (r, cH p s9 g9) ∧ iH p s9 g9 N := by
  unfold c_X1_inRange_b17 at hf
  unfold f_X1_inRange_b17
  exact cs_X1_inRange_b18 E h hf
def c_X1_inRange_b0 (E : zE) (N : iN) (p0 : Int64) (p2 : Int64) (p4 : Int64) (s : cT) (g : zH) : Option (Int32 × (cT × zH)) :=
  if p0 < p2 then (
    c_X1_inRange_b17 E N s g
  ) else (
    if p4 < p0 then (
      c_X1_inRange_b17 E N s g
    ) else (
      c_X1_inRange_b18 E N (1 : Int32) s g
    )
  )
theorem cs_X1_inRange_b0 (E : zE) {s : cT} {g : zH} (h : iH p s g N) {p0 : Int64} {p2 : Int64} {p4 : Int64} (hf : c_X1_inRange_b0 E N p0 p2 p4 s g = some (r, (s9, g9))) : f_X1_inRange_b0 E p0 p2 p4 (cH p s g) = some (r, cH p s9 g9) ∧ iH p s9 g9 N := by
  unfold c_X1_inRange_b0 at hf
  unfold f_X1_inRange_b0
  by_cases c54 : p0 < p2
  · have hf := zif_t c54 hf
    refine kif_t c54 ?_
    exact cs_X1_inRange_b17 E h hf
  · have hf := zif_f c54 hf
    refine kif_f c54 ?_
    by_cases c55 : p4 < p0
    · have hf := zif_t c55 hf
      refine kif_t c55 ?_
      exact cs_X1_inRange_b17 E h hf
    · have hf := zif_f c55 hf
      refine kif_f c55 ?_
      exact cs_X1_inRange_b18 E h hf
def c_X1_inRange (E : zE) (N : iN) (p0 : Int64) (p2 : Int64) (p4 : Int64) (s : cT) (g : zH) : Option (Int32 × (cT × zH)) :=
  c_X1_inRange_b0 E N p0 p2 p4 s g
theorem cs_X1_inRange (E : zE) {s : cT} {g : zH} (h : iH p s g N) {p0 : Int64} {p2 : Int64} {p4 : Int64} (hf : c_X1_inRange E N p0 p2 p4 s g = some (r, (s9, g9))) : f_X1_inRange E p0 p2 p4 (cH p s g) = some (r, cH p s9 g9) ∧ iH p s9 g9 N := by
  unfold c_X1_inRange at hf
  unfold f_X1_inRange
  exact cs_X1_inRange_b0 E h hf
end
section
variable {p : cP} {N : iN} {r : Unit} {s9 : cT} {g9 : zH}
def c_X12_like_b0 (E : zE) (N : iN) (p0 : Nat) (p1 : Nat) (s : cT) (g : zH) : Option (Unit × (cT × zH)) :=
  some ((), ((uL (uI (uI (uI (uI (uI (uI s (N.1 + 140 + p0) 0 (s.2.1 (N.1 + 140 + p1) 0)) (N.1 + 140 + p0) 1 ((uI s (N.1 + 140 + p0) 0 (s.2.1 (N.1 + 140 + p1) 0)).2.1 (N.1 + 140 + p1) 1)) (N.1 + 140 + p0) 2 ((uI (uI s (N.1 + 140 + p0) 0 (s.2.1 (N.1 + 140 + p1) 0)) (N.1 + 140 + p0) 1 ((uI s (N.1 + 140 + p0) 0 (s.2.1 (N.1 + 140 + p1) 0)).2.1 (N.1 + 140 + p1) 1)).2.1 (N.1 + 140 + p1) 2)) (N.1 + 140 + p0) 3 ((uI (uI (uI s (N.1 + 140 + p0) 0 (s.2.1 (N.1 + 140 + p1) 0)) (N.1 + 140 + p0) 1 ((uI s (N.1 + 140 + p0) 0 (s.2.1 (N.1 + 140 + p1) 0)).2.1 (N.1 + 140 + p1) 1)) (N.1 + 140 + p0) 2 ((uI (uI s (N.1 + 140 + p0) 0 (s.2.1 (N.1 + 140 + p1) 0)) (N.1 + 140 + p0) 1 ((uI s (N.1 + 140 + p0) 0 (s.2.1 (N.1 + 140 + p1) 0)).2.1 (N.1 + 140 + p1) 1)).2.1 (N.1 + 140 + p1) 2)).2.1 (N.1 + 140 + p1) 3)) (N.1 + 140 + p0) 4 ((uI (uI (uI (uI s (N.1 + 140 + p0) 0 (s.2.1 (N.1 + 140 + p1) 0)) (N.1 + 140 + p0) 1 ((uI s (N.1 + 140 + p0) 0 (s.2.1 (N.1 + 140 + p1) 0)).2.1 (N.1 + 140 + p1) 1)) (N.1 + 140 + p0) 2 ((uI (uI s (N.1 + 140 + p0) 0 (s.2.1 (N.1 + 140 + p1) 0)) (N.1 + 140 + p0) 1 ((uI s (N.1 + 140 + p0) 0 (s.2.1 (N.1 + 140 + p1) 0)).2.1 (N.1 + 140 + p1) 1)).2.1 (N.1 + 140 + p1) 2)) (N.1 + 140 + p0) 3 ((uI (uI (uI s (N.1 + 140 + p0) 0 (s.2.1 (N.1 + 140 + p1) 0)) (N.1 + 140 + p0) 1 ((uI s (N.1 + 140 + p0) 0 (s.2.1 (N.1 + 140 + p1) 0)).2.1 (N.1 + 140 + p1) 1)) (N.1 + 140 + p0) 2 ((uI (uI s (N.1 + 140 + p0) 0 (s.2.1 (N.1 + 140 + p1) 0)) (N.1 + 140 + p0) 1 ((uI s (N.1 + 140 + p0) 0 (s.2.1 (N.1 + 140 + p1) 0)).2.1 (N.1 + 140 + p1) 1)).2.1 (N.1 + 140 + p1) 2)).2.1 (N.1 + 140 + p1) 3)).2.1 (N.1 + 140 + p1) 4)) (N.1 + 140 + p0) 5 ((uI (uI (uI (uI (uI s (N.1 + 140 + p0) 0 (s.2.1 (N.1 + 140 + p1) 0)) (N.1 + 140 + p0) 1 ((uI s (N.1 + 140 + p0) 0 (s.2.1 (N.1 + 140 + p1) 0)).2.1 (N.1 + 140 + p1) 1)) (N.1 + 140 + p0) 2 ((uI (uI s (N.1 + 140 + p0) 0 (s.2.1 (N.1 + 140 + p1) 0)) (N.1 + 140 + p0) 1 ((uI s (N.1 + 140 + p0) 0 (s.2.1 (N.1 + 140 + p1) 0)).2.1 (N.1 + 140 + p1) 1)).2.1 (N.1 + 140 + p1) 2)) (N.1 + 140 + p0) 3 ((uI (uI (uI s (N.1 + 140 + p0) 0 (s.2.1 (N.1 + 140 + p1) 0)) (N.1 + 140 + p0) 1 ((uI s (N.1 + 140 + p0) 0 (s.2.1 (N.1 + 140 + p1) 0)).2.1 (N.1 + 140 + p1) 1)) (N.1 + 140 + p0) 2 ((uI (uI s (N.1 + 140 + p0) 0 (s.2.1 (N.1 + 140 + p1) 0)) (N.1 + 140 + p0) 1 ((uI s (N.1 + 140 + p0) 0 (s.2.1 (N.1 + 140 + p1) 0)).2.1 (N.1 + 140 + p1) 1)).2.1 (N.1 + 140 + p1) 2)).2.1 (N.1 + 140 + p1) 3)) (N.1 + 140 + p0) 4 ((uI (uI (uI (uI s (N.1 + 140 + p0) 0 (s.2.1 (N.1 + 140 + p1) 0)) (N.1 + 140 + p0) 1 ((uI s (N.1 + 140 + p0) 0 (s.2.1 (N.1 + 140 + p1) 0)).2.1 (N.1 + 140 + p1) 1)) (N.1 + 140 + p0) 2 ((uI (uI s (N.1 + 140 + p0) 0 (s.2.1 (N.1 + 140 + p1) 0)) (N.1 + 140 + p0) 1 ((uI s (N.1 + 140 + p0) 0 (s.2.1 (N.1 + 140 + p1) 0)).2.1 (N.1 + 140 + p1) 1)).2.1 (N.1 + 140 + p1) 2)) (N.1 + 140 + p0) 3 ((uI (uI (uI s (N.1 + 140 + p0) 0 (s.2.1 (N.1 + 140 + p1) 0)) (N.1 + 140 + p0) 1 ((uI s (N.1 + 140 + p0) 0 (s.2.1 (N.1 + 140 + p1) 0)).2.1 (N.1 + 140 + p1) 1)) (N.1 + 140 + p0) 2 ((uI (uI s (N.1 + 140 + p0) 0 (s.2.1 (N.1 + 140 + p1) 0)) (N.1 + 140 + p0) 1 ((uI s (N.1 + 140 + p0) 0 (s.2.1 (N.1 + 140 + p1) 0)).2.1 (N.1 + 140 + p1) 1)).2.1 (N.1 + 140 + p1) 2)).2.1 (N.1 + 140 + p1) 3)).2.1 (N.1 + 140 + p1) 4)).2.1 (N.1 + 140 + p1) 5)) (N.1 + 140 + p0) 6 ((uI (uI (uI (uI (uI (uI s (N.1 + 140 + p0) 0 (s.2.1 (N.1 + 140 + p1) 0)) (N.1 + 140 + p0) 1 ((uI s (N.1 + 140 + p0) 0 (s.2.1 (N.1 + 140 + p1) 0)).2.1 (N.1 + 140 + p1) 1)) (N.1 + 140 + p0) 2 ((uI (uI s (N.1 + 140 + p0) 0 (s.2.1 (N.1 + 140 + p1) 0)) (N.1 + 140 + p0) 1 ((uI s (N.1 + 140 + p0) 0 (s.2.1 (N.1 + 140 + p1) 0)).2.1 (N.1 + 140 + p1) 1)).2.1 (N.1 + 140 + p1) 2)) (N.1 + 140 + p0) 3 ((uI (uI (uI s (N.1 + 140 + p0) 0 (s.2.1 (N.1 + 140 + p1) 0)) (N.1 + 140 + p0) 1 ((uI s (N.1 + 140 + p0) 0 (s.2.1 (N.1 + 140 + p1) 0)).2.1 (N.1 + 140 + p1) 1)) (N.1 + 140 + p0) 2 ((uI (uI s (N.1 + 140 + p0) 0 (s.2.1 (N.1 + 140 + p1) 0)) (N.1 + 140 + p0) 1 ((uI s (N.1 + 140 + p0) 0 (s.2.1 (N.1 + 140 + p1) 0)).2.1 (N.1 + 140 + p1) 1)).2.1 (N.1 + 140 + p1) 2)).2.1 (N.1 + 140 + p1) 3)) (N.1 + 140 + p0) 4 ((uI (uI (uI (uI s (N.1 + 140 + p0) 0 (s.2.1 (N.1 + 140 + p1) 0)) (N.1 + 140 + p0) 1 ((uI s (N.1 + 140 + p0) 0 (s.2.1 (N.1 + 140 + p1) 0)).2.1 (N.1 + 140 + p1) 1)) (N.1 + 140 + p0) 2 ((uI (uI s (N.1 + 140 + p0) 0 (s.2.1 (N.1 + 140 + p1) 0)) (N.1 + 140 + p0) 1 ((uI s (N.1 + 140 + p0) 0 (s.2.1 (N.1 + 140 + p1) 0)).2.1 (N.1 + 140 + p1) 1)).2.1 (N.1 + 140 + p1) 2)) (N.1 + 140 + p0) 3 ((uI (uI (uI s (N.1 + 140 + p0) 0 (s.2.1 (N.1 + 140 + p1) 0)) (N.1 + 140 + p0) 1 ((uI s (N.1 + 140 + p0) 0 (s.2.1 (N.1 + 140 + p1) 0)).2.1 (N.1 + 140 + p1) 1)) (N.1 + 140 + p0) 2 ((uI (uI s (N.1 + 140 + p0) 0 (s.2.1 (N.1 + 140 + p1) 0)) (N.1 + 140 + p0) 1 ((uI s (N.1 + 140 + p0) 0 (s.2.1 (N.1 + 140 + p1) 0)).2.1 (N.1 + 140 + p1) 1)).2.1 (N.1 + 140 + p1) 2)).2.1 (N.1 + 140 + p1) 3)).2.1 (N.1 + 140 + p1) 4)) (N.1 + 140 + p0) 5 ((uI (uI (uI (uI (uI s (N.1 + 140 + p0) 0 (s.2.1 (N.1 + 140 + p1) 0)) (N.1 + 140 + p0) 1 ((uI s (N.1 + 140 + p0) 0 (s.2.1 (N.1 + 140 + p1) 0)).2.1 (N.1 + 140 + p1) 1)) (N.1 + 140 + p0) 2 ((uI (uI s (N.1 + 140 + p0) 0 (s.2.1 (N.1 + 140 + p1) 0)) (N.1 + 140 + p0) 1 ((uI s (N.1 + 140 + p0) 0 (s.2.1 (N.1 + 140 + p1) 0)).2.1 (N.1 + 140 + p1) 1)).2.1 (N.1 + 140 + p1) 2)) (N.1 + 140 + p0) 3 ((uI (uI (uI s (N.1 + 140 + p0) 0 (s.2.1 (N.1 + 140 + p1) 0)) (N.1 + 140 + p0) 1 ((uI s (N.1 + 140 + p0) 0 (s.2.1 (N.1 + 140 + p1) 0)).2.1 (N.1 + 140 + p1) 1)) (N.1 + 140 + p0) 2 ((uI (uI s (N.1 + 140 + p0) 0 (s.2.1 (N.1 + 140 + p1) 0)) (N.1 + 140 + p0) 1 ((uI s (N.1 + 140 + p0) 0 (s.2.1 (N.1 + 140 + p1) 0)).2.1 (N.1 + 140 + p1) 1)).2.1 (N.1 + 140 + p1) 2)).2.1 (N.1 + 140 + p1) 3)) (N.1 + 140 + p0) 4 ((uI (uI (uI (uI s (N.1 + 140 + p0) 0 (s.2.1 (N.1 + 140 + p1) 0)) (N.1 + 140 + p0) 1 ((uI s (N.1 + 140 + p0) 0 (s.2.1 (N.1 + 140 + p1) 0)).2.1 (N.1 + 140 + p1) 1)) (N.1 + 140 + p0) 2 ((uI (uI s (N.1 + 140 + p0) 0 (s.2.1 (N.1 + 140 + p1) 0)) (N.1 + 140 + p0) 1 ((uI s (N.1 + 140 + p0) 0 (s.2.1 (N.1 + 140 + p1) 0)).2.1 (N.1 + 140 + p1) 1)).2.1 (N.1 + 140 + p1) 2)) (N.1 + 140 + p0) 3 ((uI (uI (uI s (N.1 + 140 + p0) 0 (s.2.1 (N.1 + 140 + p1) 0)) (N.1 + 140 + p0) 1 ((uI s (N.1 + 140 + p0) 0 (s.2.1 (N.1 + 140 + p1) 0)).2.1 (N.1 + 140 + p1) 1)) (N.1 + 140 + p0) 2 ((uI (uI s (N.1 + 140 + p0) 0 (s.2.1 (N.1 + 140 + p1) 0)) (N.1 + 140 + p0) 1 ((uI s (N.1 + 140 + p0) 0 (s.2.1 (N.1 + 140 + p1) 0)).2.1 (N.1 + 140 + p1) 1)).2.1 (N.1 + 140 + p1) 2)).2.1 (N.1 + 140 + p1) 3)).2.1 (N.1 + 140 + p1) 4)).2.1 (N.1 + 140 + p1) 5)).2.2.1 (N.1 + 140 + p1) 6)), g))
theorem cs_X12_like_b0 (E : zE) {s : cT} {g : zH} (h : iH p s g N) {p0 : Nat} {p1 : Nat} (hi_p0 : p0 < N.2.1) (hi_p1 : p1 < N.2.1) (hf : c_X12_like_b0 E N p0 p1 s g = some (r, (s9, g9))) : f_X12_like_b0 E (p.1 (N.1 + 140 + p0)) (p.1 (N.1 + 140 + p1)) (cH p s g) = some (r, cH p s9 g9) ∧ iH p s9 g9 N := by
  unfold c_X12_like_b0 at hf
  unfold f_X12_like_b0
  refine kb1 (a_Tr_I0 h hi_p1) ?_
  refine kb1 (a_Tr_pI0 h hi_p0 _) ?_
  have h := iH_uI h (d := (N.1 + 140 + p0)) (by have := h.2.2.2.2.2; exact ⟨by omega, by omega, by omega, fun _ _ => by omega⟩) 0 (s.2.1 (N.1 + 140 + p1) 0)
  refine kb1 (a_Tr_I1 h hi_p1) ?_
  refine kb1 (a_Tr_pI1 h hi_p0 _) ?_
  have h := iH_uI h (d := (N.1 + 140 + p0)) (by have := h.2.2.2.2.2; exact ⟨by omega, by omega, by omega, fun _ _ => by omega⟩) 1 ((uI s (N.1 + 140 + p0) 0 (s.2.1 (N.1 + 140 + p1) 0)).2.1 (N.1 + 140 + p1) 1)
  refine kb1 (a_Tr_I2 h hi_p1) ?_
  refine kb1 (a_Tr_pI2 h hi_p0 _) ?_
  have h := iH_uI h (d := (N.1 + 140 + p0)) (by have := h.2.2.2.2.2; exact ⟨by omega, by omega, by omega, fun _ _ => by omega⟩) 2 ((uI (uI s (N.1 + 140 + p0) 0 (s.2.1 (N.1 + 140 + p1) 0)) (N.1 + 140 + p0) 1 ((uI s (N.1 + 140 + p0) 0 (s.2.1 (N.1 + 140 + p1) 0)).2.1 (N.1 + 140 + p1) 1)).2.1 (N.1 + 140 + p1) 2)
  refine kb1 (a_Tr_I3 h hi_p1) ?_
  refine kb1 (a_Tr_pI3 h hi_p0 _) ?_
  have h := iH_uI h (d := (N.1 + 140 + p0)) (by have := h.2.2.2.2.2; exact ⟨by omega, by omega, by omega, fun _ _ => by omega⟩) 3 ((uI (uI (uI s (N.1 + 140 + p0) 0 (s.2.1 (N.1 + 140 + p1) 0)) (N.1 + 140 + p0) 1 ((uI s (N.1 + 140 + p0) 0 (s.2.1 (N.1 + 140 + p1) 0)).2.1 (N.1 + 140 + p1) 1)) (N.1 + 140 + p0) 2 ((uI (uI s (N.1 + 140 + p0) 0 (s.2.1 (N.1 + 140 + p1) 0)) (N.1 + 140 + p0) 1 ((uI s (N.1 + 140 + p0) 0 (s.2.1 (N.1 + 140 + p1) 0)).2.1 (N.1 + 140 + p1) 1)).2.1 (N.1 + 140 + p1) 2)).2.1 (N.1 + 140 + p1) 3)
  refine kb1 (a_Tr_I4 h hi_p1) ?_
  refine kb1 (a_Tr_pI4 h hi_p0 _) ?_
  have h := iH_uI h (d := (N.1 + 140 + p0)) (by have := h.2.2.2.2.2; exact ⟨by omega, by omega, by omega, fun _ _ => by omega⟩) 4 ((uI (uI (uI (uI s (N.1 + 140 + p0) 0 (s.2.1 (N.1 + 140 + p1) 0)) (N.1 + 140 + p0) 1 ((uI s (N.1 + 140 + p0) 0 (s.2.1 (N.1 + 140 + p1) 0)).2.1 (N.1 + 140 + p1) 1)) (N.1 + 140 + p0) 2 ((uI (uI s (N.1 + 140 + p0) 0 (s.2.1 (N.1 + 140 + p1) 0)) (N.1 + 140 + p0) 1 ((uI s (N.1 + 140 + p0) 0 (s.2.1 (N.1 + 140 + p1) 0)).2.1 (N.1 + 140 + p1) 1)).2.1 (N.1 + 140 + p1) 2)) (N.1 + 140 + p0) 3 ((uI (uI (uI s (N.1 + 140 + p0) 0 (s.2.1 (N.1 + 140 + p1) 0)) (N.1 + 140 + p0) 1 ((uI s (N.1 + 140 + p0) 0 (s.2.1 (N.1 + 140 + p1) 0)).2.1 (N.1 + 140 + p1) 1)) (N.1 + 140 + p0) 2 ((uI (uI s (N.1 + 140 + p0) 0 (s.2.1 (N.1 + 140 + p1) 0)) (N.1 + 140 + p0) 1 ((uI s (N.1 + 140 + p0) 0 (s.2.1 (N.1 + 140 + p1) 0)).2.1 (N.1 + 140 + p1) 1)).2.1 (N.1 + 140 + p1) 2)).2.1 (N.1 + 140 + p1) 3)).2.1 (N.1 + 140 + p1) 4)
  refine kb1 (a_Tr_I5 h hi_p1) ?_
  refine kb1 (a_Tr_pI5 h hi_p0 _) ?_
  have h := iH_uI h (d := (N.1 + 140 + p0)) (by have := h.2.2.2.2.2; exact ⟨by omega, by omega, by omega, fun _ _ => by omega⟩) 5 ((uI (uI (uI (uI (uI s (N.1 + 140 + p0) 0 (s.2.1 (N.1 + 140 + p1) 0)) (N.1 + 140 + p0) 1 ((uI s (N.1 + 140 + p0) 0 (s.2.1 (N.1 + 140 + p1) 0)).2.1 (N.1 + 140 + p1) 1)) (N.1 + 140 + p0) 2 ((uI (uI s (N.1 + 140 + p0) 0 (s.2.1 (N.1 + 140 + p1) 0)) (N.1 + 140 + p0) 1 ((uI s (N.1 + 140 + p0) 0 (s.2.1 (N.1 + 140 + p1) 0)).2.1 (N.1 + 140 + p1) 1)).2.1 (N.1 + 140 + p1) 2)) (N.1 + 140 + p0) 3 ((uI (uI (uI s (N.1 + 140 + p0) 0 (s.2.1 (N.1 + 140 + p1) 0)) (N.1 + 140 + p0) 1 ((uI s (N.1 + 140 + p0) 0 (s.2.1 (N.1 + 140 + p1) 0)).2.1 (N.1 + 140 + p1) 1)) (N.1 + 140 + p0) 2 ((uI (uI s (N.1 + 140 + p0) 0 (s.2.1 (N.1 + 140 + p1) 0)) (N.1 + 140 + p0) 1 ((uI s (N.1 + 140 + p0) 0 (s.2.1 (N.1 + 140 + p1) 0)).2.1 (N.1 + 140 + p1) 1)).2.1 (N.1 + 140 + p1) 2)).2.1 (N.1 + 140 + p1) 3)) (N.1 + 140 + p0) 4 ((uI (uI (uI (uI s (N.1 + 140 + p0) 0 (s.2.1 (N.1 + 140 + p1) 0)) (N.1 + 140 + p0) 1 ((uI s (N.1 + 140 + p0) 0 (s.2.1 (N.1 + 140 + p1) 0)).2.1 (N.1 + 140 + p1) 1)) (N.1 + 140 + p0) 2 ((uI (uI s (N.1 + 140 + p0) 0 (s.2.1 (N.1 + 140 + p1) 0)) (N.1 + 140 + p0) 1 ((uI s (N.1 + 140 + p0) 0 (s.2.1 (N.1 + 140 + p1) 0)).2.1 (N.1 + 140 + p1) 1)).2.1 (N.1 + 140 + p1) 2)) (N.1 + 140 + p0) 3 ((uI (uI (uI s (N.1 + 140 + p0) 0 (s.2.1 (N.1 + 140 + p1) 0)) (N.1 + 140 + p0) 1 ((uI s (N.1 + 140 + p0) 0 (s.2.1 (N.1 + 140 + p1) 0)).2.1 (N.1 + 140 + p1) 1)) (N.1 + 140 + p0) 2 ((uI (uI s (N.1 + 140 + p0) 0 (s.2.1 (N.1 + 140 + p1) 0)) (N.1 + 140 + p0) 1 ((uI s (N.1 + 140 + p0) 0 (s.2.1 (N.1 + 140 + p1) 0)).2.1 (N.1 + 140 + p1) 1)).2.1 (N.1 + 140 + p1) 2)).2.1 (N.1 + 140 + p1) 3)).2.1 (N.1 + 140 + p1) 4)).2.1 (N.1 + 140 + p1) 5)
  refine kb1 (a_Tr_L6 h hi_p1) ?_
  refine kb1 (a_Tr_pL6 h hi_p0 _) ?_
  have h := iH_uL h (N.1 + 140 + p0) 6 ((uI (uI (uI (uI (uI (uI s (N.1 + 140 + p0) 0 (s.2.1 (N.1 + 140 + p1) 0)) (N.1 + 140 + p0) 1 ((uI s (N.1 + 140 + p0) 0 (s.2.1 (N.1 + 140 + p1) 0)).2.1 (N.1 + 140 + p1) 1)) (N.1 + 140 + p0) 2 ((uI (uI s (N.1 + 140 + p0) 0 (s.2.1 (N.1 + 140 + p1) 0)) (N.1 + 140 + p0) 1 ((uI s (N.1 + 140 + p0) 0 (s.2.1 (N.1 + 140 + p1) 0)).2.1 (N.1 + 140 + p1) 1)).2.1 (N.1 + 140 + p1) 2)) (N.1 + 140 + p0) 3 ((uI (uI (uI s (N.1 + 140 + p0) 0 (s.2.1 (N.1 + 140 + p1) 0)) (N.1 + 140 + p0) 1 ((uI s (N.1 + 140 + p0) 0 (s.2.1 (N.1 + 140 + p1) 0)).2.1 (N.1 + 140 + p1) 1)) (N.1 + 140 + p0) 2 ((uI (uI s (N.1 + 140 + p0) 0 (s.2.1 (N.1 + 140 + p1) 0)) (N.1 + 140 + p0) 1 ((uI s (N.1 + 140 + p0) 0 (s.2.1 (N.1 + 140 + p1) 0)).2.1 (N.1 + 140 + p1) 1)).2.1 (N.1 + 140 + p1) 2)).2.1 (N.1 + 140 + p1) 3)) (N.1 + 140 + p0) 4 ((uI (uI (uI (uI s (N.1 + 140 + p0) 0 (s.2.1 (N.1 + 140 + p1) 0)) (N.1 + 140 + p0) 1 ((uI s (N.1 + 140 + p0) 0 (s.2.1 (N.1 + 140 + p1) 0)).2.1 (N.1 + 140 + p1) 1)) (N.1 + 140 + p0) 2 ((uI (uI s (N.1 + 140 + p0) 0 (s.2.1 (N.1 + 140 + p1) 0)) (N.1 + 140 + p0) 1 ((uI s (N.1 + 140 + p0) 0 (s.2.1 (N.1 + 140 + p1) 0)).2.1 (N.1 + 140 + p1) 1)).2.1 (N.1 + 140 + p1) 2)) (N.1 + 140 + p0) 3 ((uI (uI (uI s (N.1 + 140 + p0) 0 (s.2.1 (N.1 + 140 + p1) 0)) (N.1 + 140 + p0) 1 ((uI s (N.1 + 140 + p0) 0 (s.2.1 (N.1 + 140 + p1) 0)).2.1 (N.1 + 140 + p1) 1)) (N.1 + 140 + p0) 2 ((uI (uI s (N.1 + 140 + p0) 0 (s.2.1 (N.1 + 140 + p1) 0)) (N.1 + 140 + p0) 1 ((uI s (N.1 + 140 + p0) 0 (s.2.1 (N.1 + 140 + p1) 0)).2.1 (N.1 + 140 + p1) 1)).2.1 (N.1 + 140 + p1) 2)).2.1 (N.1 + 140 + p1) 3)).2.1 (N.1 + 140 + p1) 4)) (N.1 + 140 + p0) 5 ((uI (uI (uI (uI (uI s (N.1 + 140 + p0) 0 (s.2.1 (N.1 + 140 + p1) 0)) (N.1 + 140 + p0) 1 ((uI s (N.1 + 140 + p0) 0 (s.2.1 (N.1 + 140 + p1) 0)).2.1 (N.1 + 140 + p1) 1)) (N.1 + 140 + p0) 2 ((uI (uI s (N.1 + 140 + p0) 0 (s.2.1 (N.1 + 140 + p1) 0)) (N.1 + 140 + p0) 1 ((uI s (N.1 + 140 + p0) 0 (s.2.1 (N.1 + 140 + p1) 0)).2.1 (N.1 + 140 + p1) 1)).2.1 (N.1 + 140 + p1) 2)) (N.1 + 140 + p0) 3 ((uI (uI (uI s (N.1 + 140 + p0) 0 (s.2.1 (N.1 + 140 + p1) 0)) (N.1 + 140 + p0) 1 ((uI s (N.1 + 140 + p0) 0 (s.2.1 (N.1 + 140 + p1) 0)).2.1 (N.1 + 140 + p1) 1)) (N.1 + 140 + p0) 2 ((uI (uI s (N.1 + 140 + p0) 0 (s.2.1 (N.1 + 140 + p1) 0)) (N.1 + 140 + p0) 1 ((uI s (N.1 + 140 + p0) 0 (s.2.1 (N.1 + 140 + p1) 0)).2.1 (N.1 + 140 + p1) 1)).2.1 (N.1 + 140 + p1) 2)).2.1 (N.1 + 140 + p1) 3)) (N.1 + 140 + p0) 4 ((uI (uI (uI (uI s (N.1 + 140 + p0) 0 (s.2.1 (N.1 + 140 + p1) 0)) (N.1 + 140 + p0) 1 ((uI s (N.1 + 140 + p0) 0 (s.2.1 (N.1 + 140 + p1) 0)).2.1 (N.1 + 140 + p1) 1)) (N.1 + 140 + p0) 2 ((uI (uI s (N.1 + 140 + p0) 0 (s.2.1 (N.1 + 140 + p1) 0)) (N.1 + 140 + p0) 1 ((uI s (N.1 + 140 + p0) 0 (s.2.1 (N.1 + 140 + p1) 0)).2.1 (N.1 + 140 + p1) 1)).2.1 (N.1 + 140 + p1) 2)) (N.1 + 140 + p0) 3 ((uI (uI (uI s (N.1 + 140 + p0) 0 (s.2.1 (N.1 + 140 + p1) 0)) (N.1 + 140 + p0) 1 ((uI s (N.1 + 140 + p0) 0 (s.2.1 (N.1 + 140 + p1) 0)).2.1 (N.1 + 140 + p1) 1)) (N.1 + 140 + p0) 2 ((uI (uI s (N.1 + 140 + p0) 0 (s.2.1 (N.1 + 140 + p1) 0)) (N.1 + 140 + p0) 1 ((uI s (N.1 + 140 + p0) 0 (s.2.1 (N.1 + 140 + p1) 0)).2.1 (N.1 + 140 + p1) 1)).2.1 (N.1 + 140 + p1) 2)).2.1 (N.1 + 140 + p1) 3)).2.1 (N.1 + 140 + p1) 4)).2.1 (N.1 + 140 + p1) 5)).2.2.1 (N.1 + 140 + p1) 6)
  cases hf
  exact ⟨rfl, h⟩
def c_X12_like (E : zE) (N : iN) (p0 : Nat) (p1 : Nat) (s : cT) (g : zH) : Option (Unit × (cT × zH)) :=
  c_X12_like_b0 E N p0 p1 s g
theorem cs_X12_like (E : zE) {s : cT} {g : zH} (h : iH p s g N) {p0 : Nat} {p1 : Nat} (hi_p0 : p0 < N.2.1) (hi_p1 : p1 < N.2.1) (hf : c_X12_like E N p0 p1 s g = some (r, (s9, g9))) : f_X12_like E (p.1 (N.1 + 140 + p0)) (p.1 (N.1 + 140 + p1)) (cH p s g) = some (r, cH p s9 g9) ∧ iH p s9 g9 N := by
  unfold c_X12_like at hf
  unfold f_X12_like
  exact cs_X12_like_b0 E h hi_p0 hi_p1 hf
end
section
variable {p : cP} {N : iN} {r : Int32} {s9 : cT} {g9 : zH}
def c_J12_max_b10 (E : zE) (N : iN) (s0 : Int32) (s : cT) (g : zH) : Option (Int32 × (cT × zH)) :=
  some (s0, (s, g))
theorem cs_J12_max_b10 (E : zE) {s : cT} {g : zH} (h : iH p s g N) {s0 : Int32} (hf : c_J12_max_b10 E N s0 s g = some (r, (s9, g9))) : f_J12_max_b10 E s0 (cH p s g) = some (r, cH p s9 g9) ∧ iH p s9 g9 N := by
  unfold c_J12_max_b10 at hf
  unfold f_J12_max_b10
  cases hf
  exact ⟨rfl, h⟩
def c_J12_max_b0 (E : zE) (N : iN) (p0 : Int32) (p1 : Int32) (s : cT) (g : zH) : Option (Int32 × (cT × zH)) :=
  if p0 < p1 then (
    c_J12_max_b10 E N p1 s g
  ) else (
    c_J12_max_b10 E N p0 s g
  )
theorem cs_J12_max_b0 (E : zE) {s : cT} {g : zH} (h : iH p s g N) {p0 : Int32} {p1 : Int32} (hf : c_J12_max_b0 E N p0 p1 s g = some (r, (s9, g9))) : f_J12_max_b0 E p0 p1 (cH p s g) = some (r, cH p s9 g9) ∧ iH p s9 g9 N := by
  unfold c_J12_max_b0 at hf
  unfold f_J12_max_b0
  by_cases c56 : p0 < p1
  · have hf := zif_t c56 hf
    refine kif_t c56 ?_
    exact cs_J12_max_b10 E h hf
  · have hf := zif_f c56 hf
    refine kif_f c56 ?_
    exact cs_J12_max_b10 E h hf
def c_J12_max (E : zE) (N : iN) (p0 : Int32) (p1 : Int32) (s : cT) (g : zH) : Option (Int32 × (cT × zH)) :=
  c_J12_max_b0 E N p0 p1 s g
theorem cs_J12_max (E : zE) {s : cT} {g : zH} (h : iH p s g N) {p0 : Int32} {p1 : Int32} (hf : c_J12_max E N p0 p1 s g = some (r, (s9, g9))) : f_J12_max E p0 p1 (cH p s g) = some (r, cH p s9 g9) ∧ iH p s9 g9 N := by
  unfold c_J12_max at hf
  unfold f_J12_max
  exact cs_J12_max_b0 E h hf
end
section
variable {p : cP} {N : iN} {r : Int32} {s9 : cT} {g9 : zH}
def c_J12_min_b10 (E : zE) (N : iN) (s0 : Int32) (s : cT) (g : zH) : Option (Int32 × (cT × zH)) :=
  some (s0, (s, g))
theorem cs_J12_min_b10 (E : zE) {s : cT} {g : zH} (h : iH p s g N) {s0 : Int32} (hf : c_J12_min_b10 E N s0 s g = some (r, (s9, g9))) : f_J12_min_b10 E s0 (cH p s g) = some (r, cH p s9 g9) ∧ iH p s9 g9 N := by
  unfold c_J12_min_b10 at hf
  unfold f_J12_min_b10
  cases hf
  exact ⟨rfl, h⟩
def c_J12_min_b0 (E : zE) (N : iN) (p0 : Int32) (p1 : Int32) (s : cT) (g : zH) : Option (Int32 × (cT × zH)) :=
  if p1 < p0 then (
    c_J12_min_b10 E N p1 s g
  ) else (
    c_J12_min_b10 E N p0 s g
  )
theorem cs_J12_min_b0 (E : zE) {s : cT} {g : zH} (h : iH p s g N) {p0 : Int32} {p1 : Int32} (hf : c_J12_min_b0 E N p0 p1 s g = some (r, (s9, g9))) : f_J12_min_b0 E p0 p1 (cH p s g) = some (r, cH p s9 g9) ∧ iH p s9 g9 N := by
  unfold c_J12_min_b0 at hf
  unfold f_J12_min_b0
  by_cases c57 : p1 < p0
  · have hf := zif_t c57 hf
    refine kif_t c57 ?_
    exact cs_J12_min_b10 E h hf
  · have hf := zif_f c57 hf
    refine kif_f c57 ?_
    exact cs_J12_min_b10 E h hf
def c_J12_min (E : zE) (N : iN) (p0 : Int32) (p1 : Int32) (s : cT) (g : zH) : Option (Int32 × (cT × zH)) :=
  c_J12_min_b0 E N p0 p1 s g
theorem cs_J12_min (E : zE) {s : cT} {g : zH} (h : iH p s g N) {p0 : Int32} {p1 : Int32} (hf : c_J12_min E N p0 p1 s g = some (r, (s9, g9))) : f_J12_min E p0 p1 (cH p s g) = some (r, cH p s9 g9) ∧ iH p s9 g9 N := by
  unfold c_J12_min at hf
  unfold f_J12_min
  exact cs_J12_min_b0 E h hf
end
section
variable {p : cP} {N : iN} {r : Unit} {s9 : cT} {g9 : zH}
def c_X5_like_b0 (E : zE) (N : iN) (s : cT) (g : zH) : Option (Unit × (cT × zH)) :=
  (ccpI s (N.1 + 16) 900 (N.1 + 16) 900 (0 : Int32) (0 : Int32) (900 : Int32)).bind fun s59 =>
  some ((), (s59, g))
theorem cs_X5_like_b0 (E : zE) {s : cT} {g : zH} (h : iH p s g N) (hf : c_X5_like_b0 E N  s g = some (r, (s9, g9))) : f_X5_like_b0 E (p.1 (N.1 + 15)) (p.1 (N.1 + 15)) (cH p s g) = some (r, cH p s9 g9) ∧ iH p s9 g9 N := by
  unfold c_X5_like_b0 at hf
  unfold f_X5_like_b0
  refine kb1 (a_Gr_R0 h) ?_
  refine kb1 (a_Gr_R0 h) ?_
  obtain ⟨s59, e58, hf⟩ := zbind hf
  refine kb1 (c_cpI h.1 (t := 2) (a_own_sh h) (a_own_sh h) (Or.inr (Or.inl rfl)) e58) ?_
  obtain ⟨-, rfl⟩ := z_ite e58
  have h := iH_uA h (d := (N.1 + 16)) (by have := h.2.2.2.2.2; exact ⟨by omega, by omega, by omega, fun _ _ => by omega⟩) (va_cpy (s.2.1 (N.1 + 16)) (s.2.1 (N.1 + 16)) ((0 : Int32)).toNatClampNeg ((0 : Int32)).toNatClampNeg ((900 : Int32)).toNatClampNeg)
  cases hf
  exact ⟨rfl, h⟩
def c_X5_like (E : zE) (N : iN) (s : cT) (g : zH) : Option (Unit × (cT × zH)) :=
  c_X5_like_b0 E N s g
theorem cs_X5_like (E : zE) {s : cT} {g : zH} (h : iH p s g N) (hf : c_X5_like E N  s g = some (r, (s9, g9))) : f_X5_like E (p.1 (N.1 + 15)) (p.1 (N.1 + 15)) (cH p s g) = some (r, cH p s9 g9) ∧ iH p s9 g9 N := by
  unfold c_X5_like at hf
  unfold f_X5_like
  exact cs_X5_like_b0 E h hf
end
section
variable {p : cP} {N : iN} {r : Int32} {s9 : cT} {g9 : zH}
def c_X1_append_l41 (E : zE) (N : iN) (k25 : Nat → Int32 → Int32 → cT → zH → Option (Int32 × (cT × zH))) : Nat → Nat → Int32 → Int32 → Int32 → Int32 → cT → zH → Option (Int32 × (cT × zH))
  | 0, _, _, _, _, _, _, _ => none
  | n + 1, p2, p3, p4, p5, p6, s, g =>
    if p6 < 0 then (
      k25 p2 p3 (p4 + 1) s g
    ) else (
      (csI s 23 1500 (s.2.1 1 7) (((p5 >>> (p6 &&& 31)).toInt8.toInt32).toInt8.toInt32)).bind fun s68 =>
      c_X1_append_l41 E N k25 n p2 p3 p4 p5 (p6 + (-8)) (uI s68 1 7 ((s68.2.1 1 7) + (1 : Int32))) g
    )
theorem cs_X1_append_l41 (E : zE) {K25 : Nat → Nat → Int32 → Int32 → zH → Option (Int32 × zH)} {k25 : Nat → Int32 → Int32 → cT → zH → Option (Int32 × (cT × zH))} (hk25 : ∀ {s : cT} {g : zH} (h : iH p s g N) {p2 : Nat} {p3 : Int32} {p4 : Int32} (hq_p2 : p.2 p2 = none), k25 p2 p3 p4 s g = some (r, (s9, g9)) → K25 (p.1 1) p2 p3 p4 (cH p s g) = some (r, cH p s9 g9) ∧ iH p s9 g9 N) : ∀ (n : Nat) {s : cT} {g : zH} (h : iH p s g N) {p2 : Nat} {p3 : Int32} {p4 : Int32} {p5 : Int32} {p6 : Int32} (hq_p2 : p.2 p2 = none), c_X1_append_l41 E N k25 n p2 p3 p4 p5 p6 s g = some (r, (s9, g9)) → f_X1_append_l41 E K25 n (p.1 1) p2 p3 p4 p5 p6 (cH p s g) = some (r, cH p s9 g9) ∧ iH p s9 g9 N := by
  intro n
  induction n with
  | zero =>
    intro s g h p2 p3 p4 p5 p6 hq_p2 hf
    cases hf
  | succ n ih =>
    intro s g h p2 p3 p4 p5 p6 hq_p2 hf
    unfold c_X1_append_l41 at hf
    unfold f_X1_append_l41
    by_cases c66 : p6 < 0
    · have hf := zif_t c66 hf
      refine kif_t c66 ?_
      exact hk25 h hq_p2 hf
    · have hf := zif_f c66 hf
      refine kif_f c66 ?_
      refine kb1 (a_X_R6 h) ?_
      refine kb1 (a_X_I7 h) ?_
      obtain ⟨s68, e67, hf⟩ := zbind hf
      obtain ⟨hj69, e67⟩ := csI_spec e67
      refine kb1 ((a_buf_s h hj69 _).trans (congrArg (fun z9 => some (cH p z9 _)) e67)) ?_
      have h := iH_uI h (d := 23) (by have := h.2.2.2.2.2; exact ⟨by omega, by omega, by omega, fun _ _ => by omega⟩) ((s.2.1 1 7)).toNatClampNeg (((p5 >>> (p6 &&& 31)).toInt8.toInt32).toInt8.toInt32)
      rw [e67] at h
      refine kb1 (a_X_I7 h) ?_
      refine kb1 (a_X_pI7 h _) ?_
      have h := iH_uI h (d := 1) (by have := h.2.2.2.2.2; exact ⟨by omega, by omega, by omega, fun _ _ => by omega⟩) 7 ((s68.2.1 1 7) + (1 : Int32))
      exact ih h hq_p2 hf
def c_X1_append_l25 (E : zE) (N : iN) : Nat → Nat → Int32 → Int32 → cT → zH → Option (Int32 × (cT × zH))
  | 0, _, _, _, _, _ => none
  | n + 1, p2, p3, p4, s, g =>
    if p3 ≤ p4 then (
      some ((s.2.1 1 7), (s, g))
    ) else (
      (dI g p2 0 p4).bind fun x4 =>
      c_X1_append_l41 E N (c_X1_append_l25 E N n) E.1 p2 p3 p4 x4 (24 : Int32) s g
    )
theorem cs_X1_append_l25 (E : zE) : ∀ (n : Nat) {s : cT} {g : zH} (h : iH p s g N) {p2 : Nat} {p3 : Int32} {p4 : Int32} (hq_p2 : p.2 p2 = none), c_X1_append_l25 E N n p2 p3 p4 s g = some (r, (s9, g9)) → f_X1_append_l25 E n (p.1 1) p2 p3 p4 (cH p s g) = some (r, cH p s9 g9) ∧ iH p s9 g9 N := by
  intro n
  induction n with
  | zero =>
    intro s g h p2 p3 p4 hq_p2 hf
    cases hf
  | succ n ih =>
    intro s g h p2 p3 p4 hq_p2 hf
    unfold c_X1_append_l25 at hf
    unfold f_X1_append_l25
    by_cases c70 : p3 ≤ p4
    · have hf := zif_t c70 hf
      refine kif_t c70 ?_
      refine kb1 (a_X_I7 h) ?_
      cases hf
      exact ⟨rfl, h⟩
    · have hf := zif_f c70 hf
      refine kif_f c70 ?_
      obtain ⟨x4, e71, hf⟩ := zbind hf
      refine kb1 ((r_dI hq_p2 _ _).trans e71) ?_
      exact cs_X1_append_l41 E ih E.1 h hq_p2 hf
def c_X1_append_b0 (E : zE) (N : iN) (p1 : Nat) (s : cT) (g : zH) : Option (Int32 × (cT × zH)) :=
  (lenA g p1).bind fun x3 =>
  if ((s.2.1 1 7) + ((4 : Int32) * x3)) ≤ (1500 : Int32) then (
    (lenA g p1).bind fun x6 =>
    c_X1_append_l25 E N E.1 p1 x6 (0 : Int32) s g
  ) else (
    some ((-1 : Int32), (s, g))
  )
theorem cs_X1_append_b0 (E : zE) {s : cT} {g : zH} (h : iH p s g N) {p1 : Nat} (hq_p1 : p.2 p1 = none) (hf : c_X1_append_b0 E N p1 s g = some (r, (s9, g9))) : f_X1_append_b0 E (p.1 1) p1 (cH p s g) = some (r, cH p s9 g9) ∧ iH p s9 g9 N := by
  unfold c_X1_append_b0 at hf
  unfold f_X1_append_b0
  refine kb1 (a_X_I7 h) ?_
  obtain ⟨x3, e72, hf⟩ := zbind hf
  refine kb1 ((r_len hq_p1).trans e72) ?_
  by_cases c73 : ((s.2.1 1 7) + ((4 : Int32) * x3)) ≤ (1500 : Int32)
  · have hf := zif_t c73 hf
    refine kif_t c73 ?_
    obtain ⟨x6, e74, hf⟩ := zbind hf
    refine kb1 ((r_len hq_p1).trans e74) ?_
    exact cs_X1_append_l25 E E.1 h hq_p1 hf
  · have hf := zif_f c73 hf
    refine kif_f c73 ?_
    cases hf
    exact ⟨rfl, h⟩
def c_X1_append (E : zE) (N : iN) (p1 : Nat) (s : cT) (g : zH) : Option (Int32 × (cT × zH)) :=
  c_X1_append_b0 E N p1 s g
theorem cs_X1_append (E : zE) {s : cT} {g : zH} (h : iH p s g N) {p1 : Nat} (hq_p1 : p.2 p1 = none) (hf : c_X1_append E N p1 s g = some (r, (s9, g9))) : f_X1_append E (p.1 1) p1 (cH p s g) = some (r, cH p s9 g9) ∧ iH p s9 g9 N := by
  unfold c_X1_append at hf
  unfold f_X1_append
  exact cs_X1_append_b0 E h hq_p1 hf
end
section
variable {p : cP} {N : iN} {r : Int32} {s9 : cT} {g9 : zH}
def c_X1_appendInput_b0 (E : zE) (N : iN) (p1 : Int32) (p2 : Int32) (p3 : Int32) (p4 : Int32) (p5 : Int32) (s : cT) (g : zH) : Option (Int32 × (cT × zH)) :=
  bnd2 (nA g 0 (5 : Int32) (.inl fun _ => 0)) fun q1 g76 =>
  (sI g76 q1 0 (0 : Int32) p1).bind fun g78 =>
  (sI g78 q1 0 (1 : Int32) p2).bind fun g80 =>
  (sI g80 q1 0 (2 : Int32) p3).bind fun g82 =>
  (sI g82 q1 0 (3 : Int32) p4).bind fun g84 =>
  (sI g84 q1 0 (4 : Int32) p5).bind fun g86 =>
  bnd2 (c_X1_append E N q1 s g86) fun x17 z88 =>
  some (x17, (z88.1, z88.2))
theorem cs_X1_appendInput_b0 (E : zE) {s : cT} {g : zH} (h : iH p s g N) {p1 : Int32} {p2 : Int32} {p3 : Int32} {p4 : Int32} {p5 : Int32} (hf : c_X1_appendInput_b0 E N p1 p2 p3 p4 p5 s g = some (r, (s9, g9))) : f_X1_appendInput_b0 E (p.1 1) p1 p2 p3 p4 p5 (cH p s g) = some (r, cH p s9 g9) ∧ iH p s9 g9 N := by
  unfold c_X1_appendInput_b0 at hf
  unfold f_X1_appendInput_b0
  obtain ⟨q1, g76, e75, hf⟩ := zbind2 hf
  have hq_q1 := hq_nA h e75
  refine kbc (k_nA h e75) ?_
  have h := iH_g h (gle_nA e75)
  obtain ⟨g78, e77, hf⟩ := zbind hf
  refine kb1 ((r_sI hq_q1 _ _ _).trans (congrArg (Option.map (cH p _)) e77)) ?_
  have h := iH_g h (gle_sI e77)
  obtain ⟨g80, e79, hf⟩ := zbind hf
  refine kb1 ((r_sI hq_q1 _ _ _).trans (congrArg (Option.map (cH p _)) e79)) ?_
  have h := iH_g h (gle_sI e79)
  obtain ⟨g82, e81, hf⟩ := zbind hf
  refine kb1 ((r_sI hq_q1 _ _ _).trans (congrArg (Option.map (cH p _)) e81)) ?_
  have h := iH_g h (gle_sI e81)
  obtain ⟨g84, e83, hf⟩ := zbind hf
  refine kb1 ((r_sI hq_q1 _ _ _).trans (congrArg (Option.map (cH p _)) e83)) ?_
  have h := iH_g h (gle_sI e83)
  obtain ⟨g86, e85, hf⟩ := zbind hf
  refine kb1 ((r_sI hq_q1 _ _ _).trans (congrArg (Option.map (cH p _)) e85)) ?_
  have h := iH_g h (gle_sI e85)
  refine kb1 (a_X_ck h) ?_
  obtain ⟨x17, z88, e87, hf⟩ := zbind2 hf
  obtain ⟨e87, h⟩ := cs_X1_append E h hq_q1 e87
  refine kbc e87 ?_
  cases hf
  exact ⟨rfl, h⟩
def c_X1_appendInput (E : zE) (N : iN) (p1 : Int32) (p2 : Int32) (p3 : Int32) (p4 : Int32) (p5 : Int32) (s : cT) (g : zH) : Option (Int32 × (cT × zH)) :=
  c_X1_appendInput_b0 E N p1 p2 p3 p4 p5 s g
theorem cs_X1_appendInput (E : zE) {s : cT} {g : zH} (h : iH p s g N) {p1 : Int32} {p2 : Int32} {p3 : Int32} {p4 : Int32} {p5 : Int32} (hf : c_X1_appendInput E N p1 p2 p3 p4 p5 s g = some (r, (s9, g9))) : f_X1_appendInput E (p.1 1) p1 p2 p3 p4 p5 (cH p s g) = some (r, cH p s9 g9) ∧ iH p s9 g9 N := by
  unfold c_X1_appendInput at hf
  unfold f_X1_appendInput
  exact cs_X1_appendInput_b0 E h hf
end
section
variable {p : cP} {N : iN} {r : Int32} {s9 : cT} {g9 : zH}
def c_X1_truncateInput_b0 (E : zE) (N : iN) (p1 : Int32) (s : cT) (g : zH) : Option (Int32 × (cT × zH)) :=
  if (if (0 : Int64) ≤ (p1.toInt64) ∧ (p1.toInt64) ≤ ((s.2.1 1 7).toInt64) then (1 : Int32) else 0) = 0 then (
    some ((-1 : Int32), (s, g))
  ) else (
    some (p1, ((uI s 1 7 p1), g))
  )
theorem cs_X1_truncateInput_b0 (E : zE) {s : cT} {g : zH} (h : iH p s g N) {p1 : Int32} (hf : c_X1_truncateInput_b0 E N p1 s g = some (r, (s9, g9))) : f_X1_truncateInput_b0 E (p.1 1) p1 (cH p s g) = some (r, cH p s9 g9) ∧ iH p s9 g9 N := by
  unfold c_X1_truncateInput_b0 at hf
  unfold f_X1_truncateInput_b0
  refine kb1 (a_X_I7 h) ?_
  refine kbc (b_inRange _ _ _ _ _) ?_
  by_cases c91 : (if (0 : Int64) ≤ (p1.toInt64) ∧ (p1.toInt64) ≤ ((s.2.1 1 7).toInt64) then (1 : Int32) else 0) = 0
  · have hf := zif_t c91 hf
    refine kif_t c91 ?_
    cases hf
    exact ⟨rfl, h⟩
  · have hf := zif_f c91 hf
    refine kif_f c91 ?_
    refine kb1 (a_X_pI7 h _) ?_
    have h := iH_uI h (d := 1) (by have := h.2.2.2.2.2; exact ⟨by omega, by omega, by omega, fun _ _ => by omega⟩) 7 p1
    cases hf
    exact ⟨rfl, h⟩
def c_X1_truncateInput (E : zE) (N : iN) (p1 : Int32) (s : cT) (g : zH) : Option (Int32 × (cT × zH)) :=
  c_X1_truncateInput_b0 E N p1 s g
theorem cs_X1_truncateInput (E : zE) {s : cT} {g : zH} (h : iH p s g N) {p1 : Int32} (hf : c_X1_truncateInput E N p1 s g = some (r, (s9, g9))) : f_X1_truncateInput E (p.1 1) p1 (cH p s g) = some (r, cH p s9 g9) ∧ iH p s9 g9 N := by
  unfold c_X1_truncateInput at hf
  unfold f_X1_truncateInput
  exact cs_X1_truncateInput_b0 E h hf
end
section
variable {p : cP} {N : iN} {r : Unit} {s9 : cT} {g9 : zH}
def c_J17_init_X13_b0 (E : zE) (N : iN) (p0 : Nat) (s : cT) (g : zH) : Option (Unit × (cT × zH)) :=
  some ((), (s, g))
theorem cs_J17_init_X13_b0 (E : zE) {s : cT} {g : zH} (h : iH p s g N) {p0 : Nat} (hq_p0 : p.2 p0 = none) (hf : c_J17_init_X13_b0 E N p0 s g = some (r, (s9, g9))) : f_J17_init_X13_b0 E p0 (cH p s g) = some (r, cH p s9 g9) ∧ iH p s9 g9 N := by
  unfold c_J17_init_X13_b0 at hf
  unfold f_J17_init_X13_b0
  cases hf
  exact ⟨rfl, h⟩
def c_J17_init_X13 (E : zE) (N : iN) (p0 : Nat) (s : cT) (g : zH) : Option (Unit × (cT × zH)) :=
  c_J17_init_X13_b0 E N p0 s g
theorem cs_J17_init_X13 (E : zE) {s : cT} {g : zH} (h : iH p s g N) {p0 : Nat} (hq_p0 : p.2 p0 = none) (hf : c_J17_init_X13 E N p0 s g = some (r, (s9, g9))) : f_J17_init_X13 E p0 (cH p s g) = some (r, cH p s9 g9) ∧ iH p s9 g9 N := by
  unfold c_J17_init_X13 at hf
  unfold f_J17_init_X13
  exact cs_J17_init_X13_b0 E h hq_p0 hf
end
section
variable {p : cP} {N : iN} {r : Unit} {s9 : cT} {g9 : zH}
def c_X13_init_b0 (E : zE) (N : iN) (p0 : Nat) (p1 : Int32) (p2 : Int32) (p3 : Int32) (p4 : Int32) (s : cT) (g : zH) : Option (Unit × (cT × zH)) :=
  bnd2 (c_J17_init_X13 E N p0 s g) fun x3 z93 =>
  (pF z93.2 p0 12 0 (.int p1)).bind fun g96 =>
  (pF g96 p0 12 1 (.int p2)).bind fun g98 =>
  (pF g98 p0 12 2 (.int p3)).bind fun g100 =>
  (pF g100 p0 12 3 (.int p4)).bind fun g102 =>
  some ((), (z93.1, g102))
theorem cs_X13_init_b0 (E : zE) {s : cT} {g : zH} (h : iH p s g N) {p0 : Nat} {p1 : Int32} {p2 : Int32} {p3 : Int32} {p4 : Int32} (hq_p0 : p.2 p0 = none) (hf : c_X13_init_b0 E N p0 p1 p2 p3 p4 s g = some (r, (s9, g9))) : f_X13_init_b0 E p0 p1 p2 p3 p4 (cH p s g) = some (r, cH p s9 g9) ∧ iH p s9 g9 N := by
  unfold c_X13_init_b0 at hf
  unfold f_X13_init_b0
  obtain ⟨x3, z93, e92, hf⟩ := zbind2 hf
  obtain ⟨e92, h⟩ := cs_J17_init_X13 E h hq_p0 e92
  refine kbc e92 ?_
  obtain ⟨g96, e95, hf⟩ := zbind hf
  refine kb1 ((r_pF hq_p0 _ _ _).trans (congrArg (Option.map (cH p _)) e95)) ?_
  have h := iH_g h (gle_pF e95)
  obtain ⟨g98, e97, hf⟩ := zbind hf
  refine kb1 ((r_pF hq_p0 _ _ _).trans (congrArg (Option.map (cH p _)) e97)) ?_
  have h := iH_g h (gle_pF e97)
  obtain ⟨g100, e99, hf⟩ := zbind hf
  refine kb1 ((r_pF hq_p0 _ _ _).trans (congrArg (Option.map (cH p _)) e99)) ?_
  have h := iH_g h (gle_pF e99)
  obtain ⟨g102, e101, hf⟩ := zbind hf
  refine kb1 ((r_pF hq_p0 _ _ _).trans (congrArg (Option.map (cH p _)) e101)) ?_
  have h := iH_g h (gle_pF e101)
  cases hf
  exact ⟨rfl, h⟩
def c_X13_init (E : zE) (N : iN) (p0 : Nat) (p1 : Int32) (p2 : Int32) (p3 : Int32) (p4 : Int32) (s : cT) (g : zH) : Option (Unit × (cT × zH)) :=
  c_X13_init_b0 E N p0 p1 p2 p3 p4 s g
theorem cs_X13_init (E : zE) {s : cT} {g : zH} (h : iH p s g N) {p0 : Nat} {p1 : Int32} {p2 : Int32} {p3 : Int32} {p4 : Int32} (hq_p0 : p.2 p0 = none) (hf : c_X13_init E N p0 p1 p2 p3 p4 s g = some (r, (s9, g9))) : f_X13_init E p0 p1 p2 p3 p4 (cH p s g) = some (r, cH p s9 g9) ∧ iH p s9 g9 N := by
  unfold c_X13_init at hf
  unfold f_X13_init
  exact cs_X13_init_b0 E h hq_p0 hf
end
section
variable {p : cP} {N : iN} {r : Int32} {s9 : cT} {g9 : zH}
def c_X1_column_b0 (E : zE) (N : iN) (p0 : Int32) (s : cT) (g : zH) : Option (Int32 × (cT × zH)) :=
  some ((p0 - p0 / (30 : Int32) * (30 : Int32)), (s, g))
theorem cs_X1_column_b0 (E : zE) {s : cT} {g : zH} (h : iH p s g N) {p0 : Int32} (hf : c_X1_column_b0 E N p0 s g = some (r, (s9, g9))) : f_X1_column_b0 E p0 (cH p s g) = some (r, cH p s9 g9) ∧ iH p s9 g9 N := by
  unfold c_X1_column_b0 at hf
  unfold f_X1_column_b0
  cases hf
  exact ⟨rfl, h⟩
def c_X1_column (E : zE) (N : iN) (p0 : Int32) (s : cT) (g : zH) : Option (Int32 × (cT × zH)) :=
  c_X1_column_b0 E N p0 s g
theorem cs_X1_column (E : zE) {s : cT} {g : zH} (h : iH p s g N) {p0 : Int32} (hf : c_X1_column E N p0 s g = some (r, (s9, g9))) : f_X1_column E p0 (cH p s g) = some (r, cH p s9 g9) ∧ iH p s9 g9 N := by
  unfold c_X1_column at hf
  unfold f_X1_column
  exact cs_X1_column_b0 E h hf
end
section
variable {p : cP} {N : iN} {r : Int32} {s9 : cT} {g9 : zH}
def c_X1_row_b0 (E : zE) (N : iN) (p0 : Int32) (s : cT) (g : zH) : Option (Int32 × (cT × zH)) :=
  some ((p0 / (30 : Int32)), (s, g))
theorem cs_X1_row_b0 (E : zE) {s : cT} {g : zH} (h : iH p s g N) {p0 : Int32} (hf : c_X1_row_b0 E N p0 s g = some (r, (s9, g9))) : f_X1_row_b0 E p0 (cH p s g) = some (r, cH p s9 g9) ∧ iH p s9 g9 N := by
  unfold c_X1_row_b0 at hf
  unfold f_X1_row_b0
  cases hf
  exact ⟨rfl, h⟩
def c_X1_row (E : zE) (N : iN) (p0 : Int32) (s : cT) (g : zH) : Option (Int32 × (cT × zH)) :=
  c_X1_row_b0 E N p0 s g
theorem cs_X1_row (E : zE) {s : cT} {g : zH} (h : iH p s g N) {p0 : Int32} (hf : c_X1_row E N p0 s g = some (r, (s9, g9))) : f_X1_row E p0 (cH p s g) = some (r, cH p s9 g9) ∧ iH p s9 g9 N := by
  unfold c_X1_row at hf
  unfold f_X1_row
  exact cs_X1_row_b0 E h hf
end
section
variable {p : cP} {N : iN} {r : Int32} {s9 : cT} {g9 : zH}
def c_X13_contains_b51 (E : zE) (N : iN) (s0 : Int32) (s : cT) (g : zH) : Option (Int32 × (cT × zH)) :=
  (zgd .boolean s0).bind fun _ =>
  some (s0, (s, g))
theorem cs_X13_contains_b51 (E : zE) {s : cT} {g : zH} (h : iH p s g N) {s0 : Int32} (hf : c_X13_contains_b51 E N s0 s g = some (r, (s9, g9))) : f_X13_contains_b51 E s0 (cH p s g) = some (r, cH p s9 g9) ∧ iH p s9 g9 N := by
  unfold c_X13_contains_b51 at hf
  unfold f_X13_contains_b51
  obtain ⟨_, e103, hf⟩ := zbind hf
  refine kb1 e103 ?_
  cases hf
  exact ⟨rfl, h⟩
def c_X13_contains_b50 (E : zE) (N : iN) (s : cT) (g : zH) : Option (Int32 × (cT × zH)) :=
  c_X13_contains_b51 E N (0 : Int32) s g
theorem cs_X13_contains_b50 (E : zE) {s : cT} {g : zH} (h : iH p s g N) (hf : c_X13_contains_b50 E N  s g = some (r, (s9, g9))) : f_X13_contains_b50 E  (cH p s g) = some (r, cH p s9 g9) ∧ iH p s9 g9 N := by
  unfold c_X13_contains_b50 at hf
  unfold f_X13_contains_b50
  exact cs_X13_contains_b51 E h hf
def c_X13_contains_b0 (E : zE) (N : iN) (p0 : Nat) (p1 : Int32) (s : cT) (g : zH) : Option (Int32 × (cT × zH)) :=
  bnd2 (c_X1_column E N p1 s g) fun x3 z105 =>
  (gI z105.2 p0 12 0).bind fun x4 =>
  (gI z105.2 p0 12 2).bind fun x6 =>
  if (if (x4.toInt64) ≤ (x3.toInt64) ∧ (x3.toInt64) ≤ ((x6 - (1 : Int32)).toInt64) then (1 : Int32) else 0) = 0 then (
    c_X13_contains_b50 E N z105.1 z105.2
  ) else (
    bnd2 (c_X1_row E N p1 z105.1 z105.2) fun x14 z112 =>
    (gI z112.2 p0 12 1).bind fun x15 =>
    (gI z112.2 p0 12 3).bind fun x17 =>
    if (if (x15.toInt64) ≤ (x14.toInt64) ∧ (x14.toInt64) ≤ ((x17 - (1 : Int32)).toInt64) then (1 : Int32) else 0) = 0 then (
      c_X13_contains_b50 E N z112.1 z112.2
    ) else (
      c_X13_contains_b51 E N (1 : Int32) z112.1 z112.2
    )
  )
theorem cs_X13_contains_b0 (E : zE) {s : cT} {g : zH} (h : iH p s g N) {p0 : Nat} {p1 : Int32} (hq_p0 : p.2 p0 = none) (hf : c_X13_contains_b0 E N p0 p1 s g = some (r, (s9, g9))) : f_X13_contains_b0 E p0 p1 (cH p s g) = some (r, cH p s9 g9) ∧ iH p s9 g9 N := by
  unfold c_X13_contains_b0 at hf
  unfold f_X13_contains_b0
  obtain ⟨x3, z105, e104, hf⟩ := zbind2 hf
  obtain ⟨e104, h⟩ := cs_X1_column E h e104
  refine kbc e104 ?_
  obtain ⟨x4, e107, hf⟩ := zbind hf
  refine kb1 ((r_gI hq_p0 _ _).trans e107) ?_
  obtain ⟨x6, e108, hf⟩ := zbind hf
  refine kb1 ((r_gI hq_p0 _ _).trans e108) ?_
  refine kbc (b_inRange _ _ _ _ _) ?_
  by_cases c110 : (if (x4.toInt64) ≤ (x3.toInt64) ∧ (x3.toInt64) ≤ ((x6 - (1 : Int32)).toInt64) then (1 : Int32) else 0) = 0
  · have hf := zif_t c110 hf
    refine kif_t c110 ?_
    exact cs_X13_contains_b50 E h hf
  · have hf := zif_f c110 hf
    refine kif_f c110 ?_
    obtain ⟨x14, z112, e111, hf⟩ := zbind2 hf
    obtain ⟨e111, h⟩ := cs_X1_row E h e111
    refine kbc e111 ?_
    obtain ⟨x15, e114, hf⟩ := zbind hf
    refine kb1 ((r_gI hq_p0 _ _).trans e114) ?_
    obtain ⟨x17, e115, hf⟩ := zbind hf
    refine kb1 ((r_gI hq_p0 _ _).trans e115) ?_
    refine kbc (b_inRange _ _ _ _ _) ?_
    by_cases c117 : (if (x15.toInt64) ≤ (x14.toInt64) ∧ (x14.toInt64) ≤ ((x17 - (1 : Int32)).toInt64) then (1 : Int32) else 0) = 0
    · have hf := zif_t c117 hf
      refine kif_t c117 ?_
      exact cs_X13_contains_b50 E h hf
    · have hf := zif_f c117 hf
      refine kif_f c117 ?_
      exact cs_X13_contains_b51 E h hf
def c_X13_contains (E : zE) (N : iN) (p0 : Nat) (p1 : Int32) (s : cT) (g : zH) : Option (Int32 × (cT × zH)) :=
  c_X13_contains_b0 E N p0 p1 s g
theorem cs_X13_contains (E : zE) {s : cT} {g : zH} (h : iH p s g N) {p0 : Nat} {p1 : Int32} (hq_p0 : p.2 p0 = none) (hf : c_X13_contains E N p0 p1 s g = some (r, (s9, g9))) : f_X13_contains E p0 p1 (cH p s g) = some (r, cH p s9 g9) ∧ iH p s9 g9 N := by
  unfold c_X13_contains at hf
  unfold f_X13_contains
  exact cs_X13_contains_b0 E h hq_p0 hf
end
section
variable {p : cP} {N : iN} {r : Int32} {s9 : cT} {g9 : zH}
def c_X1_cell_b0 (E : zE) (N : iN) (p0 : Int32) (p1 : Int32) (s : cT) (g : zH) : Option (Int32 × (cT × zH)) :=
  some ((((30 : Int32) * p1) + p0), (s, g))
theorem cs_X1_cell_b0 (E : zE) {s : cT} {g : zH} (h : iH p s g N) {p0 : Int32} {p1 : Int32} (hf : c_X1_cell_b0 E N p0 p1 s g = some (r, (s9, g9))) : f_X1_cell_b0 E p0 p1 (cH p s g) = some (r, cH p s9 g9) ∧ iH p s9 g9 N := by
  unfold c_X1_cell_b0 at hf
  unfold f_X1_cell_b0
  cases hf
  exact ⟨rfl, h⟩
def c_X1_cell (E : zE) (N : iN) (p0 : Int32) (p1 : Int32) (s : cT) (g : zH) : Option (Int32 × (cT × zH)) :=
  c_X1_cell_b0 E N p0 p1 s g
theorem cs_X1_cell (E : zE) {s : cT} {g : zH} (h : iH p s g N) {p0 : Int32} {p1 : Int32} (hf : c_X1_cell E N p0 p1 s g = some (r, (s9, g9))) : f_X1_cell E p0 p1 (cH p s g) = some (r, cH p s9 g9) ∧ iH p s9 g9 N := by
  unfold c_X1_cell at hf
  unfold f_X1_cell
  exact cs_X1_cell_b0 E h hf
end
section
variable {p : cP} {N : iN} {r : Int32} {s9 : cT} {g9 : zH}
def c_X14_isOpen_b13 (E : zE) (N : iN) (s0 : Int32) (s : cT) (g : zH) : Option (Int32 × (cT × zH)) :=
  (zgd .boolean s0).bind fun _ =>
  some (s0, (s, g))
theorem cs_X14_isOpen_b13 (E : zE) {s : cT} {g : zH} (h : iH p s g N) {s0 : Int32} (hf : c_X14_isOpen_b13 E N s0 s g = some (r, (s9, g9))) : f_X14_isOpen_b13 E s0 (cH p s g) = some (r, cH p s9 g9) ∧ iH p s9 g9 N := by
  unfold c_X14_isOpen_b13 at hf
  unfold f_X14_isOpen_b13
  obtain ⟨_, e118, hf⟩ := zbind hf
  refine kb1 e118 ?_
  cases hf
  exact ⟨rfl, h⟩
def c_X14_isOpen_b0 (E : zE) (N : iN) (p0 : Nat) (s : cT) (g : zH) : Option (Int32 × (cT × zH)) :=
  if (s.2.1 (N.1 + 170 + p0) 1) = (-1 : Int32) then (
    c_X14_isOpen_b13 E N (0 : Int32) s g
  ) else (
    c_X14_isOpen_b13 E N (1 : Int32) s g
  )
theorem cs_X14_isOpen_b0 (E : zE) {s : cT} {g : zH} (h : iH p s g N) {p0 : Nat} (hi_p0 : p0 < N.2.2.1) (hf : c_X14_isOpen_b0 E N p0 s g = some (r, (s9, g9))) : f_X14_isOpen_b0 E (p.1 (N.1 + 170 + p0)) (cH p s g) = some (r, cH p s9 g9) ∧ iH p s9 g9 N := by
  unfold c_X14_isOpen_b0 at hf
  unfold f_X14_isOpen_b0
  refine kb1 (a_Ou_I1 h hi_p0) ?_
  by_cases c119 : (s.2.1 (N.1 + 170 + p0) 1) = (-1 : Int32)
  · have hf := zif_t c119 hf
    refine kif_t c119 ?_
    exact cs_X14_isOpen_b13 E h hf
  · have hf := zif_f c119 hf
    refine kif_f c119 ?_
    exact cs_X14_isOpen_b13 E h hf
def c_X14_isOpen (E : zE) (N : iN) (p0 : Nat) (s : cT) (g : zH) : Option (Int32 × (cT × zH)) :=
  c_X14_isOpen_b0 E N p0 s g
theorem cs_X14_isOpen (E : zE) {s : cT} {g : zH} (h : iH p s g N) {p0 : Nat} (hi_p0 : p0 < N.2.2.1) (hf : c_X14_isOpen E N p0 s g = some (r, (s9, g9))) : f_X14_isOpen E (p.1 (N.1 + 170 + p0)) (cH p s g) = some (r, cH p s9 g9) ∧ iH p s9 g9 N := by
  unfold c_X14_isOpen at hf
  unfold f_X14_isOpen
  exact cs_X14_isOpen_b0 E h hi_p0 hf
end
section
variable {p : cP} {N : iN} {r : Int32} {s9 : cT} {g9 : zH}
def c_X4_hasOutlet_b56 (E : zE) (N : iN) (k2 : Int32 → Int32 → cT → zH → Option (Int32 × (cT × zH))) (p1 : Int32) (p2 : Int32) (s : cT) (g : zH) : Option (Int32 × (cT × zH)) :=
  k2 p1 (p2 + 1) s g
theorem cs_X4_hasOutlet_b56 (E : zE) {K2 : Nat → Int32 → Int32 → zH → Option (Int32 × zH)} {k2 : Int32 → Int32 → cT → zH → Option (Int32 × (cT × zH))} (hk2 : ∀ {s : cT} {g : zH} (h : iH p s g N) {p1 : Int32} {p2 : Int32}, k2 p1 p2 s g = some (r, (s9, g9)) → K2 (p.1 (N.1 + 10)) p1 p2 (cH p s g) = some (r, cH p s9 g9) ∧ iH p s9 g9 N) {s : cT} {g : zH} (h : iH p s g N) {p1 : Int32} {p2 : Int32} (hf : c_X4_hasOutlet_b56 E N k2 p1 p2 s g = some (r, (s9, g9))) : f_X4_hasOutlet_b56 E K2 (p.1 (N.1 + 10)) p1 p2 (cH p s g) = some (r, cH p s9 g9) ∧ iH p s9 g9 N := by
  unfold c_X4_hasOutlet_b56 at hf
  unfold f_X4_hasOutlet_b56
  exact hk2 h hf
def c_X4_hasOutlet_l2 (E : zE) (N : iN) : Nat → Int32 → Int32 → cT → zH → Option (Int32 × (cT × zH))
  | 0, _, _, _, _ => none
  | n + 1, p1, p2, s, g =>
    if (Int32.ofNat N.2.2.1) ≤ p2 then (
      some ((0 : Int32), (s, g))
    ) else (
      (cGet N.2.2.1 p2).bind fun i123 =>
      bnd2 (c_X14_isOpen E N i123 s g) fun x18 z125 =>
      if x18 = 0 then (
        c_X4_hasOutlet_b56 E N (c_X4_hasOutlet_l2 E N n) p1 p2 z125.1 z125.2
      ) else (
        (cGet N.2.2.1 p2).bind fun i129 =>
        if (z125.1.2.1 (N.1 + 170 + i129) 0) = p1 then (
          some ((1 : Int32), (z125.1, z125.2))
        ) else (
          c_X4_hasOutlet_b56 E N (c_X4_hasOutlet_l2 E N n) p1 p2 z125.1 z125.2
        )
      )
    )
theorem cs_X4_hasOutlet_l2 (E : zE) : ∀ (n : Nat) {s : cT} {g : zH} (h : iH p s g N) {p1 : Int32} {p2 : Int32}, c_X4_hasOutlet_l2 E N n p1 p2 s g = some (r, (s9, g9)) → f_X4_hasOutlet_l2 E n (p.1 (N.1 + 10)) p1 p2 (cH p s g) = some (r, cH p s9 g9) ∧ iH p s9 g9 N := by
  intro n
  induction n with
  | zero =>
    intro s g h p1 p2 hf
    cases hf
  | succ n ih =>
    intro s g h p1 p2 hf
    unfold c_X4_hasOutlet_l2 at hf
    unfold f_X4_hasOutlet_l2
    refine kb1 (a_Bk_R1 h) ?_
    refine kb1 (a_OL_ck h) ?_
    refine kbc (a_OL_n h E) ?_
    by_cases c121 : (Int32.ofNat N.2.2.1) ≤ p2
    · have hf := zif_t c121 hf
      refine kif_t c121 ?_
      cases hf
      exact ⟨rfl, h⟩
    · have hf := zif_f c121 hf
      refine kif_f c121 ?_
      refine kb1 (a_Bk_R1 h) ?_
      refine kb1 (a_OL_ck h) ?_
      obtain ⟨i123, e122, hf⟩ := zbind hf
      have hi_i123 := cGet_lt e122
      refine kbc (a_OL_G h E e122) ?_
      refine kb1 (a_Ou_ck h hi_i123) ?_
      refine kb1 (a_Ou_ck h hi_i123) ?_
      obtain ⟨x18, z125, e124, hf⟩ := zbind2 hf
      obtain ⟨e124, h⟩ := cs_X14_isOpen E h hi_i123 e124
      refine kbc e124 ?_
      by_cases c127 : x18 = 0
      · have hf := zif_t c127 hf
        refine kif_t c127 ?_
        exact cs_X4_hasOutlet_b56 E ih h hf
      · have hf := zif_f c127 hf
        refine kif_f c127 ?_
        refine kb1 (a_Bk_R1 h) ?_
        refine kb1 (a_OL_ck h) ?_
        obtain ⟨i129, e128, hf⟩ := zbind hf
        have hi_i129 := cGet_lt e128
        refine kbc (a_OL_G h E e128) ?_
        refine kb1 (a_Ou_ck h hi_i129) ?_
        refine kb1 (a_Ou_I0 h hi_i129) ?_
        by_cases c130 : (z125.1.2.1 (N.1 + 170 + i129) 0) = p1
        · have hf := zif_t c130 hf
          refine kif_t c130 ?_
          cases hf
          exact ⟨rfl, h⟩
        · have hf := zif_f c130 hf
          refine kif_f c130 ?_
          exact cs_X4_hasOutlet_b56 E ih h hf
def c_X4_hasOutlet_b0 (E : zE) (N : iN) (p1 : Int32) (s : cT) (g : zH) : Option (Int32 × (cT × zH)) :=
  c_X4_hasOutlet_l2 E N E.1 p1 (0 : Int32) s g
theorem cs_X4_hasOutlet_b0 (E : zE) {s : cT} {g : zH} (h : iH p s g N) {p1 : Int32} (hf : c_X4_hasOutlet_b0 E N p1 s g = some (r, (s9, g9))) : f_X4_hasOutlet_b0 E (p.1 (N.1 + 10)) p1 (cH p s g) = some (r, cH p s9 g9) ∧ iH p s9 g9 N := by
  unfold c_X4_hasOutlet_b0 at hf
  unfold f_X4_hasOutlet_b0
  exact cs_X4_hasOutlet_l2 E E.1 h hf
def c_X4_hasOutlet (E : zE) (N : iN) (p1 : Int32) (s : cT) (g : zH) : Option (Int32 × (cT × zH)) :=
  c_X4_hasOutlet_b0 E N p1 s g
theorem cs_X4_hasOutlet (E : zE) {s : cT} {g : zH} (h : iH p s g N) {p1 : Int32} (hf : c_X4_hasOutlet E N p1 s g = some (r, (s9, g9))) : f_X4_hasOutlet E (p.1 (N.1 + 10)) p1 (cH p s g) = some (r, cH p s9 g9) ∧ iH p s9 g9 N := by
  unfold c_X4_hasOutlet at hf
  unfold f_X4_hasOutlet
  exact cs_X4_hasOutlet_b0 E h hf
end
section
variable {p : cP} {N : iN} {r : Int32} {s9 : cT} {g9 : zH}
def c_X1_errorCode_b0 (E : zE) (N : iN) (s : cT) (g : zH) : Option (Int32 × (cT × zH)) :=
  some ((s.2.1 1 8), (s, g))
theorem cs_X1_errorCode_b0 (E : zE) {s : cT} {g : zH} (h : iH p s g N) (hf : c_X1_errorCode_b0 E N  s g = some (r, (s9, g9))) : f_X1_errorCode_b0 E (p.1 1) (cH p s g) = some (r, cH p s9 g9) ∧ iH p s9 g9 N := by
  unfold c_X1_errorCode_b0 at hf
  unfold f_X1_errorCode_b0
  refine kb1 (a_X_I8 h) ?_
  cases hf
  exact ⟨rfl, h⟩
def c_X1_errorCode (E : zE) (N : iN) (s : cT) (g : zH) : Option (Int32 × (cT × zH)) :=
  c_X1_errorCode_b0 E N s g
theorem cs_X1_errorCode (E : zE) {s : cT} {g : zH} (h : iH p s g N) (hf : c_X1_errorCode E N  s g = some (r, (s9, g9))) : f_X1_errorCode E (p.1 1) (cH p s g) = some (r, cH p s9 g9) ∧ iH p s9 g9 N := by
  unfold c_X1_errorCode at hf
  unfold f_X1_errorCode
  exact cs_X1_errorCode_b0 E h hf
end
section
variable {p : cP} {N : iN} {r : Int32} {s9 : cT} {g9 : zH}
def c_X1_errorPosition_b0 (E : zE) (N : iN) (s : cT) (g : zH) : Option (Int32 × (cT × zH)) :=
  some ((s.2.1 1 9), (s, g))
theorem cs_X1_errorPosition_b0 (E : zE) {s : cT} {g : zH} (h : iH p s g N) (hf : c_X1_errorPosition_b0 E N  s g = some (r, (s9, g9))) : f_X1_errorPosition_b0 E (p.1 1) (cH p s g) = some (r, cH p s9 g9) ∧ iH p s9 g9 N := by
  unfold c_X1_errorPosition_b0 at hf
  unfold f_X1_errorPosition_b0
  refine kb1 (a_X_I9 h) ?_
  cases hf
  exact ⟨rfl, h⟩
def c_X1_errorPosition (E : zE) (N : iN) (s : cT) (g : zH) : Option (Int32 × (cT × zH)) :=
  c_X1_errorPosition_b0 E N s g
theorem cs_X1_errorPosition (E : zE) {s : cT} {g : zH} (h : iH p s g N) (hf : c_X1_errorPosition E N  s g = some (r, (s9, g9))) : f_X1_errorPosition E (p.1 1) (cH p s g) = some (r, cH p s9 g9) ∧ iH p s9 g9 N := by
  unfold c_X1_errorPosition at hf
  unfold f_X1_errorPosition
  exact cs_X1_errorPosition_b0 E h hf
end
section
variable {p : cP} {N : iN} {r : (Unit ⊕ (Nat × Nat))} {s9 : cT} {g9 : zH}
def c_X1_requireArguments_l7 (E : zE) (N : iN) : Nat → Nat → Int32 → Int32 → cT → zH → Option ((Unit ⊕ (Nat × Nat)) × (cT × zH))
  | 0, _, _, _, _, _ => none
  | n + 1, p1, p2, p3, s, g =>
    if p2 ≤ p3 then (
      some (.inl (), (s, g))
    ) else (
      (dI g p1 3 p3).bind fun x2 =>
      if x2 = 0 then (
        bnd2 (nO g 21 6 []) fun q5 g136 =>
        (ckt g136 q5 21).bind fun _ =>
        some (.inr (21, q5), (s, g136))
      ) else (
        c_X1_requireArguments_l7 E N n p1 p2 (p3 + 1) s g
      )
    )
theorem cs_X1_requireArguments_l7 (E : zE) : ∀ (n : Nat) {s : cT} {g : zH} (h : iH p s g N) {p1 : Nat} {p2 : Int32} {p3 : Int32} (hq_p1 : p.2 p1 = none), c_X1_requireArguments_l7 E N n p1 p2 p3 s g = some (r, (s9, g9)) → f_X1_requireArguments_l7 E n p1 p2 p3 (cH p s g) = some (r, cH p s9 g9) ∧ iH p s9 g9 N := by
  intro n
  induction n with
  | zero =>
    intro s g h p1 p2 p3 hq_p1 hf
    cases hf
  | succ n ih =>
    intro s g h p1 p2 p3 hq_p1 hf
    unfold c_X1_requireArguments_l7 at hf
    unfold f_X1_requireArguments_l7
    by_cases c132 : p2 ≤ p3
    · have hf := zif_t c132 hf
      refine kif_t c132 ?_
      cases hf
      exact ⟨rfl, h⟩
    · have hf := zif_f c132 hf
      refine kif_f c132 ?_
      obtain ⟨x2, e133, hf⟩ := zbind hf
      refine kb1 ((r_dI hq_p1 _ _).trans e133) ?_
      by_cases c134 : x2 = 0
      · have hf := zif_t c134 hf
        refine kif_t c134 ?_
        obtain ⟨q5, g136, e135, hf⟩ := zbind2 hf
        have hq_q5 := hq_nO h e135
        refine kbc (k_nO h e135) ?_
        have h := iH_g h (gle_nO e135)
        obtain ⟨_, e137, hf⟩ := zbind hf
        refine kb1 ((r_ckt hq_q5 _).trans e137) ?_
        cases hf
        exact ⟨rfl, h⟩
      · have hf := zif_f c134 hf
        refine kif_f c134 ?_
        exact ih h hq_p1 hf
def c_X1_requireArguments_b0 (E : zE) (N : iN) (p0 : Nat) (s : cT) (g : zH) : Option ((Unit ⊕ (Nat × Nat)) × (cT × zH)) :=
  (lenA g p0).bind fun x1 =>
  c_X1_requireArguments_l7 E N E.1 p0 x1 (0 : Int32) s g
theorem cs_X1_requireArguments_b0 (E : zE) {s : cT} {g : zH} (h : iH p s g N) {p0 : Nat} (hq_p0 : p.2 p0 = none) (hf : c_X1_requireArguments_b0 E N p0 s g = some (r, (s9, g9))) : f_X1_requireArguments_b0 E p0 (cH p s g) = some (r, cH p s9 g9) ∧ iH p s9 g9 N := by
  unfold c_X1_requireArguments_b0 at hf
  unfold f_X1_requireArguments_b0
  obtain ⟨x1, e138, hf⟩ := zbind hf
  refine kb1 ((r_len hq_p0).trans e138) ?_
  exact cs_X1_requireArguments_l7 E E.1 h hq_p0 hf
def c_X1_requireArguments (E : zE) (N : iN) (p0 : Nat) (s : cT) (g : zH) : Option ((Unit ⊕ (Nat × Nat)) × (cT × zH)) :=
  c_X1_requireArguments_b0 E N p0 s g
theorem cs_X1_requireArguments (E : zE) {s : cT} {g : zH} (h : iH p s g N) {p0 : Nat} (hq_p0 : p.2 p0 = none) (hf : c_X1_requireArguments E N p0 s g = some (r, (s9, g9))) : f_X1_requireArguments E p0 (cH p s g) = some (r, cH p s9 g9) ∧ iH p s9 g9 N := by
  unfold c_X1_requireArguments at hf
  unfold f_X1_requireArguments
  exact cs_X1_requireArguments_b0 E h hq_p0 hf
end
section
variable {p : cP} {N : iN} {r : (Unit ⊕ (Nat × Nat))} {s9 : cT} {g9 : zH}
def c_X1_requireIndex_l7 (E : zE) (N : iN) : Nat → Nat → Int32 → Int32 → cT → zH → Option ((Unit ⊕ (Nat × Nat)) × (cT × zH))
  | 0, _, _, _, _, _ => none
  | n + 1, p1, p2, p3, s, g =>
    if p2 ≤ p3 then (
      some (.inl (), (s, g))
    ) else (
      (dI g p1 3 p3).bind fun x2 =>
      if x2 = 0 then (
        bnd2 (nO g 20 6 []) fun q5 g143 =>
        (ckt g143 q5 20).bind fun _ =>
        some (.inr (20, q5), (s, g143))
      ) else (
        c_X1_requireIndex_l7 E N n p1 p2 (p3 + 1) s g
      )
    )
theorem cs_X1_requireIndex_l7 (E : zE) : ∀ (n : Nat) {s : cT} {g : zH} (h : iH p s g N) {p1 : Nat} {p2 : Int32} {p3 : Int32} (hq_p1 : p.2 p1 = none), c_X1_requireIndex_l7 E N n p1 p2 p3 s g = some (r, (s9, g9)) → f_X1_requireIndex_l7 E n p1 p2 p3 (cH p s g) = some (r, cH p s9 g9) ∧ iH p s9 g9 N := by
  intro n
  induction n with
  | zero =>
    intro s g h p1 p2 p3 hq_p1 hf
    cases hf
  | succ n ih =>
    intro s g h p1 p2 p3 hq_p1 hf
    unfold c_X1_requireIndex_l7 at hf
    unfold f_X1_requireIndex_l7
    by_cases c139 : p2 ≤ p3
    · have hf := zif_t c139 hf
      refine kif_t c139 ?_
      cases hf
      exact ⟨rfl, h⟩
    · have hf := zif_f c139 hf
      refine kif_f c139 ?_
      obtain ⟨x2, e140, hf⟩ := zbind hf
      refine kb1 ((r_dI hq_p1 _ _).trans e140) ?_
      by_cases c141 : x2 = 0
      · have hf := zif_t c141 hf
        refine kif_t c141 ?_
        obtain ⟨q5, g143, e142, hf⟩ := zbind2 hf
        have hq_q5 := hq_nO h e142
        refine kbc (k_nO h e142) ?_
        have h := iH_g h (gle_nO e142)
        obtain ⟨_, e144, hf⟩ := zbind hf
        refine kb1 ((r_ckt hq_q5 _).trans e144) ?_
        cases hf
        exact ⟨rfl, h⟩
      · have hf := zif_f c141 hf
        refine kif_f c141 ?_
        exact ih h hq_p1 hf
def c_X1_requireIndex_b0 (E : zE) (N : iN) (p0 : Nat) (s : cT) (g : zH) : Option ((Unit ⊕ (Nat × Nat)) × (cT × zH)) :=
  (lenA g p0).bind fun x1 =>
  c_X1_requireIndex_l7 E N E.1 p0 x1 (0 : Int32) s g
theorem cs_X1_requireIndex_b0 (E : zE) {s : cT} {g : zH} (h : iH p s g N) {p0 : Nat} (hq_p0 : p.2 p0 = none) (hf : c_X1_requireIndex_b0 E N p0 s g = some (r, (s9, g9))) : f_X1_requireIndex_b0 E p0 (cH p s g) = some (r, cH p s9 g9) ∧ iH p s9 g9 N := by
  unfold c_X1_requireIndex_b0 at hf
  unfold f_X1_requireIndex_b0
  obtain ⟨x1, e145, hf⟩ := zbind hf
  refine kb1 ((r_len hq_p0).trans e145) ?_
  exact cs_X1_requireIndex_l7 E E.1 h hq_p0 hf
def c_X1_requireIndex (E : zE) (N : iN) (p0 : Nat) (s : cT) (g : zH) : Option ((Unit ⊕ (Nat × Nat)) × (cT × zH)) :=
  c_X1_requireIndex_b0 E N p0 s g
theorem cs_X1_requireIndex (E : zE) {s : cT} {g : zH} (h : iH p s g N) {p0 : Nat} (hq_p0 : p.2 p0 = none) (hf : c_X1_requireIndex E N p0 s g = some (r, (s9, g9))) : f_X1_requireIndex E p0 (cH p s g) = some (r, cH p s9 g9) ∧ iH p s9 g9 N := by
  unfold c_X1_requireIndex at hf
  unfold f_X1_requireIndex
  exact cs_X1_requireIndex_b0 E h hq_p0 hf
end
section
variable {p : cP} {N : iN} {r : (Nat ⊕ (Nat × Nat))} {s9 : cT} {g9 : zH}
def c_X1_outlet_b0 (E : zE) (N : iN) (p1 : Int32) (s : cT) (g : zH) : Option ((Nat ⊕ (Nat × Nat)) × (cT × zH)) :=
  bnd2 (nA g 3 (1 : Int32) (.inl fun _ => 0)) fun q1 g147 =>
  (zgd .boolean (if (0 : Int64) ≤ (p1.toInt64) ∧ (p1.toInt64) ≤ (((Int32.ofNat N.2.2.1) - (1 : Int32)).toInt64) then (1 : Int32) else 0)).bind fun _ =>
  (sI g147 q1 3 (0 : Int32) (if (0 : Int64) ≤ (p1.toInt64) ∧ (p1.toInt64) ≤ (((Int32.ofNat N.2.2.1) - (1 : Int32)).toInt64) then (1 : Int32) else 0)).bind fun g152 =>
  bnd2 (c_X1_requireIndex E N q1 s g152) fun x20 z154 =>
  Sum.elim (fun x21 => (
    (cGet N.2.2.1 p1).bind fun i157 =>
    some (.inl i157, (z154.1, z154.2))
  )) (fun q22 => (
    some (.inr q22, (z154.1, z154.2))
  )) x20
theorem cs_X1_outlet_b0 (E : zE) {s : cT} {g : zH} (h : iH p s g N) {p1 : Int32} (hf : c_X1_outlet_b0 E N p1 s g = some (r, (s9, g9))) : f_X1_outlet_b0 E (p.1 1) p1 (cH p s g) = some (Sum.map (fun i => p.1 (N.1 + 170 + i)) id r, cH p s9 g9) ∧ iH p s9 g9 N ∧ (∀ i, r = .inl i → i < N.2.2.1) := by
  unfold c_X1_outlet_b0 at hf
  unfold f_X1_outlet_b0
  obtain ⟨q1, g147, e146, hf⟩ := zbind2 hf
  have hq_q1 := hq_nA h e146
  refine kbc (k_nA h e146) ?_
  have h := iH_g h (gle_nA e146)
  refine kb1 (a_X_R1 h) ?_
  refine kb1 (a_Bk_R1 h) ?_
  refine kb1 (a_OL_ck h) ?_
  refine kbc (a_OL_n h E) ?_
  refine kbc (b_inRange _ _ _ _ _) ?_
  obtain ⟨_, e150, hf⟩ := zbind hf
  refine kb1 e150 ?_
  obtain ⟨g152, e151, hf⟩ := zbind hf
  refine kb1 ((r_sI hq_q1 _ _ _).trans (congrArg (Option.map (cH p _)) e151)) ?_
  have h := iH_g h (gle_sI e151)
  obtain ⟨x20, z154, e153, hf⟩ := zbind2 hf
  obtain ⟨e153, h⟩ := cs_X1_requireIndex E h hq_q1 e153
  refine kbc e153 ?_
  rcases x20 with x21 | q22
  · have hf := zinl hf
    refine kel0_l ?_
    refine kb1 (a_X_R1 h) ?_
    refine kb1 (a_Bk_R1 h) ?_
    refine kb1 (a_OL_ck h) ?_
    obtain ⟨i157, e156, hf⟩ := zbind hf
    have hi_i157 := cGet_lt e156
    refine kbc (a_OL_G h E e156) ?_
    refine kb1 (a_Ou_ck h hi_i157) ?_
    cases hf
    exact ⟨rfl, h, fun _ e9 => by cases e9; exact hi_i157⟩
  · have hf := zinr hf
    refine kel0_r ?_
    cases hf
    exact ⟨rfl, h, fun _ e9 => by cases e9⟩
def c_X1_outlet (E : zE) (N : iN) (p1 : Int32) (s : cT) (g : zH) : Option ((Nat ⊕ (Nat × Nat)) × (cT × zH)) :=
  c_X1_outlet_b0 E N p1 s g
theorem cs_X1_outlet (E : zE) {s : cT} {g : zH} (h : iH p s g N) {p1 : Int32} (hf : c_X1_outlet E N p1 s g = some (r, (s9, g9))) : f_X1_outlet E (p.1 1) p1 (cH p s g) = some (Sum.map (fun i => p.1 (N.1 + 170 + i)) id r, cH p s9 g9) ∧ iH p s9 g9 N ∧ (∀ i, r = .inl i → i < N.2.2.1) := by
  unfold c_X1_outlet at hf
  unfold f_X1_outlet
  exact cs_X1_outlet_b0 E h hf
end
section
variable {p : cP} {N : iN} {r : (Unit ⊕ (Nat × Nat))} {s9 : cT} {g9 : zH}
def c_X1_requireMonth_b0 (E : zE) (N : iN) (s : cT) (g : zH) : Option ((Unit ⊕ (Nat × Nat)) × (cT × zH)) :=
  if (s.2.1 (N.1 + 10) 5) = (60 : Int32) then (
    bnd2 (nO g 22 6 []) fun q6 g160 =>
    (ckt g160 q6 22).bind fun _ =>
    some (.inr (22, q6), (s, g160))
  ) else (
    some (.inl (), (s, g))
  )
theorem cs_X1_requireMonth_b0 (E : zE) {s : cT} {g : zH} (h : iH p s g N) (hf : c_X1_requireMonth_b0 E N  s g = some (r, (s9, g9))) : f_X1_requireMonth_b0 E (p.1 1) (cH p s g) = some (r, cH p s9 g9) ∧ iH p s9 g9 N := by
  unfold c_X1_requireMonth_b0 at hf
  unfold f_X1_requireMonth_b0
  refine kb1 (a_X_R1 h) ?_
  refine kb1 (a_Bk_I5 h) ?_
  by_cases c158 : (s.2.1 (N.1 + 10) 5) = (60 : Int32)
  · have hf := zif_t c158 hf
    refine kif_t c158 ?_
    obtain ⟨q6, g160, e159, hf⟩ := zbind2 hf
    have hq_q6 := hq_nO h e159
    refine kbc (k_nO h e159) ?_
    have h := iH_g h (gle_nO e159)
    obtain ⟨_, e161, hf⟩ := zbind hf
    refine kb1 ((r_ckt hq_q6 _).trans e161) ?_
    cases hf
    exact ⟨rfl, h⟩
  · have hf := zif_f c158 hf
    refine kif_f c158 ?_
    cases hf
    exact ⟨rfl, h⟩
def c_X1_requireMonth (E : zE) (N : iN) (s : cT) (g : zH) : Option ((Unit ⊕ (Nat × Nat)) × (cT × zH)) :=
  c_X1_requireMonth_b0 E N s g
theorem cs_X1_requireMonth (E : zE) {s : cT} {g : zH} (h : iH p s g N) (hf : c_X1_requireMonth E N  s g = some (r, (s9, g9))) : f_X1_requireMonth E (p.1 1) (cH p s g) = some (r, cH p s9 g9) ∧ iH p s9 g9 N := by
  unfold c_X1_requireMonth at hf
  unfold f_X1_requireMonth
  exact cs_X1_requireMonth_b0 E h hf
end
section
variable {p : cP} {N : iN} {r : (Int64 ⊕ (Nat × Nat))} {s9 : cT} {g9 : zH}
def c_X1_reportSales_b0 (E : zE) (N : iN) (p1 : Int32) (p2 : Int64) (s : cT) (g : zH) : Option ((Int64 ⊕ (Nat × Nat)) × (cT × zH)) :=
  bnd2 (c_X1_outlet E N p1 s g) fun x4 z163 =>
  Sum.elim (fun x5 => (
    bnd2 (nA z163.2 3 (1 : Int32) (.inl fun _ => 0)) fun q7 g166 =>
    (zgd .boolean (if (0 : Int64) ≤ p2 ∧ p2 ≤ (10000000 : Int64) then (1 : Int32) else 0)).bind fun _ =>
    (sI g166 q7 3 (0 : Int32) (if (0 : Int64) ≤ p2 ∧ p2 ≤ (10000000 : Int64) then (1 : Int32) else 0)).bind fun g170 =>
    bnd2 (c_X1_requireArguments E N q7 z163.1 g170) fun x18 z172 =>
    Sum.elim (fun x19 => (
      bnd2 (c_X1_requireMonth E N z172.1 z172.2) fun x24 z175 =>
      Sum.elim (fun x25 => (
        bnd2 (c_X14_isOpen E N x5 z175.1 z175.2) fun x30 z178 =>
        if x30 = 0 then (
          some (.inl (-1 : Int64), (z178.1, z178.2))
        ) else (
          some (.inl (z178.1.2.2.1 (N.1 + 170 + x5) 2), ((uL z178.1 (N.1 + 170 + x5) 2 p2), z178.2))
        )
      )) (fun q26 => (
        some (.inr q26, (z175.1, z175.2))
      )) x24
    )) (fun q20 => (
      some (.inr q20, (z172.1, z172.2))
    )) x18
  )) (fun q6 => (
    some (.inr q6, (z163.1, z163.2))
  )) x4
theorem cs_X1_reportSales_b0 (E : zE) {s : cT} {g : zH} (h : iH p s g N) {p1 : Int32} {p2 : Int64} (hf : c_X1_reportSales_b0 E N p1 p2 s g = some (r, (s9, g9))) : f_X1_reportSales_b0 E (p.1 1) p1 p2 (cH p s g) = some (r, cH p s9 g9) ∧ iH p s9 g9 N := by
  unfold c_X1_reportSales_b0 at hf
  unfold f_X1_reportSales_b0
  refine kb1 (a_X_ck h) ?_
  obtain ⟨x4, z163, e162, hf⟩ := zbind2 hf
  obtain ⟨e162, h, hr_x4⟩ := cs_X1_outlet E h e162
  refine kbc e162 ?_
  rcases x4 with x5 | q6
  · have hf := zinl hf
    have hi_x5 := hr_x4 _ rfl
    refine kel_l ?_
    obtain ⟨q7, g166, e165, hf⟩ := zbind2 hf
    have hq_q7 := hq_nA h e165
    refine kbc (k_nA h e165) ?_
    have h := iH_g h (gle_nA e165)
    refine kbc (b_inRange _ _ _ _ _) ?_
    obtain ⟨_, e168, hf⟩ := zbind hf
    refine kb1 e168 ?_
    obtain ⟨g170, e169, hf⟩ := zbind hf
    refine kb1 ((r_sI hq_q7 _ _ _).trans (congrArg (Option.map (cH p _)) e169)) ?_
    have h := iH_g h (gle_sI e169)
    obtain ⟨x18, z172, e171, hf⟩ := zbind2 hf
    obtain ⟨e171, h⟩ := cs_X1_requireArguments E h hq_q7 e171
    refine kbc e171 ?_
    rcases x18 with x19 | q20
    · have hf := zinl hf
      refine kel0_l ?_
      refine kb1 (a_X_ck h) ?_
      obtain ⟨x24, z175, e174, hf⟩ := zbind2 hf
      obtain ⟨e174, h⟩ := cs_X1_requireMonth E h e174
      refine kbc e174 ?_
      rcases x24 with x25 | q26
      · have hf := zinl hf
        refine kel0_l ?_
        refine kb1 (a_Ou_ck h hi_x5) ?_
        obtain ⟨x30, z178, e177, hf⟩ := zbind2 hf
        obtain ⟨e177, h⟩ := cs_X14_isOpen E h hi_x5 e177
        refine kbc e177 ?_
        by_cases c180 : x30 = 0
        · have hf := zif_t c180 hf
          refine kif_t c180 ?_
          cases hf
          exact ⟨rfl, h⟩
        · have hf := zif_f c180 hf
          refine kif_f c180 ?_
          refine kb1 (a_Ou_L2 h hi_x5) ?_
          refine kb1 (a_Ou_pL2 h hi_x5 _) ?_
          have h := iH_uL h (N.1 + 170 + x5) 2 p2
          cases hf
          exact ⟨rfl, h⟩
      · have hf := zinr hf
        refine kel0_r ?_
        cases hf
        exact ⟨rfl, h⟩
    · have hf := zinr hf
      refine kel0_r ?_
      cases hf
      exact ⟨rfl, h⟩
  · have hf := zinr hf
    refine kel_r ?_
    cases hf
    exact ⟨rfl, h⟩
def c_X1_reportSales (E : zE) (N : iN) (p1 : Int32) (p2 : Int64) (s : cT) (g : zH) : Option ((Int64 ⊕ (Nat × Nat)) × (cT × zH)) :=
  c_X1_reportSales_b0 E N p1 p2 s g
theorem cs_X1_reportSales (E : zE) {s : cT} {g : zH} (h : iH p s g N) {p1 : Int32} {p2 : Int64} (hf : c_X1_reportSales E N p1 p2 s g = some (r, (s9, g9))) : f_X1_reportSales E (p.1 1) p1 p2 (cH p s g) = some (r, cH p s9 g9) ∧ iH p s9 g9 N := by
  unfold c_X1_reportSales at hf
  unfold f_X1_reportSales
  exact cs_X1_reportSales_b0 E h hf
end
section
variable {p : cP} {N : iN} {r : Int32} {s9 : cT} {g9 : zH}
def c_X1_isPlace_b29 (E : zE) (N : iN) (s0 : Int32) (s : cT) (g : zH) : Option (Int32 × (cT × zH)) :=
  (zgd .boolean s0).bind fun _ =>
  some (s0, (s, g))
theorem cs_X1_isPlace_b29 (E : zE) {s : cT} {g : zH} (h : iH p s g N) {s0 : Int32} (hf : c_X1_isPlace_b29 E N s0 s g = some (r, (s9, g9))) : f_X1_isPlace_b29 E s0 (cH p s g) = some (r, cH p s9 g9) ∧ iH p s9 g9 N := by
  unfold c_X1_isPlace_b29 at hf
  unfold f_X1_isPlace_b29
  obtain ⟨_, e181, hf⟩ := zbind hf
  refine kb1 e181 ?_
  cases hf
  exact ⟨rfl, h⟩
def c_X1_isPlace_b28 (E : zE) (N : iN) (s : cT) (g : zH) : Option (Int32 × (cT × zH)) :=
  c_X1_isPlace_b29 E N (0 : Int32) s g
theorem cs_X1_isPlace_b28 (E : zE) {s : cT} {g : zH} (h : iH p s g N) (hf : c_X1_isPlace_b28 E N  s g = some (r, (s9, g9))) : f_X1_isPlace_b28 E  (cH p s g) = some (r, cH p s9 g9) ∧ iH p s9 g9 N := by
  unfold c_X1_isPlace_b28 at hf
  unfold f_X1_isPlace_b28
  exact cs_X1_isPlace_b29 E h hf
def c_X1_isPlace_b0 (E : zE) (N : iN) (p0 : Int32) (p1 : Int32) (s : cT) (g : zH) : Option (Int32 × (cT × zH)) :=
  if (if (0 : Int64) ≤ (p0.toInt64) ∧ (p0.toInt64) ≤ (29 : Int64) then (1 : Int32) else 0) = 0 then (
    c_X1_isPlace_b28 E N s g
  ) else (
    if (if (0 : Int64) ≤ (p1.toInt64) ∧ (p1.toInt64) ≤ (29 : Int64) then (1 : Int32) else 0) = 0 then (
      c_X1_isPlace_b28 E N s g
    ) else (
      c_X1_isPlace_b29 E N (1 : Int32) s g
    )
  )
theorem cs_X1_isPlace_b0 (E : zE) {s : cT} {g : zH} (h : iH p s g N) {p0 : Int32} {p1 : Int32} (hf : c_X1_isPlace_b0 E N p0 p1 s g = some (r, (s9, g9))) : f_X1_isPlace_b0 E p0 p1 (cH p s g) = some (r, cH p s9 g9) ∧ iH p s9 g9 N := by
  unfold c_X1_isPlace_b0 at hf
  unfold f_X1_isPlace_b0
  refine kbc (b_inRange _ _ _ _ _) ?_
  by_cases c183 : (if (0 : Int64) ≤ (p0.toInt64) ∧ (p0.toInt64) ≤ (29 : Int64) then (1 : Int32) else 0) = 0
  · have hf := zif_t c183 hf
    refine kif_t c183 ?_
    exact cs_X1_isPlace_b28 E h hf
  · have hf := zif_f c183 hf
    refine kif_f c183 ?_
    refine kbc (b_inRange _ _ _ _ _) ?_
    by_cases c185 : (if (0 : Int64) ≤ (p1.toInt64) ∧ (p1.toInt64) ≤ (29 : Int64) then (1 : Int32) else 0) = 0
    · have hf := zif_t c185 hf
      refine kif_t c185 ?_
      exact cs_X1_isPlace_b28 E h hf
    · have hf := zif_f c185 hf
      refine kif_f c185 ?_
      exact cs_X1_isPlace_b29 E h hf
def c_X1_isPlace (E : zE) (N : iN) (p0 : Int32) (p1 : Int32) (s : cT) (g : zH) : Option (Int32 × (cT × zH)) :=
  c_X1_isPlace_b0 E N p0 p1 s g
theorem cs_X1_isPlace (E : zE) {s : cT} {g : zH} (h : iH p s g N) {p0 : Int32} {p1 : Int32} (hf : c_X1_isPlace E N p0 p1 s g = some (r, (s9, g9))) : f_X1_isPlace E p0 p1 (cH p s g) = some (r, cH p s9 g9) ∧ iH p s9 g9 N := by
  unfold c_X1_isPlace at hf
  unfold f_X1_isPlace
  exact cs_X1_isPlace_b0 E h hf
end
section
variable {p : cP} {N : iN} {r : Int32} {s9 : cT} {g9 : zH}
def c_X1_isFranchisee_b0 (E : zE) (N : iN) (p1 : Int32) (s : cT) (g : zH) : Option (Int32 × (cT × zH)) :=
  (zgd .boolean (if (0 : Int64) ≤ (p1.toInt64) ∧ (p1.toInt64) ≤ (((Int32.ofNat N.2.1) - (1 : Int32)).toInt64) then (1 : Int32) else 0)).bind fun _ =>
  some ((if (0 : Int64) ≤ (p1.toInt64) ∧ (p1.toInt64) ≤ (((Int32.ofNat N.2.1) - (1 : Int32)).toInt64) then (1 : Int32) else 0), (s, g))
theorem cs_X1_isFranchisee_b0 (E : zE) {s : cT} {g : zH} (h : iH p s g N) {p1 : Int32} (hf : c_X1_isFranchisee_b0 E N p1 s g = some (r, (s9, g9))) : f_X1_isFranchisee_b0 E (p.1 1) p1 (cH p s g) = some (r, cH p s9 g9) ∧ iH p s9 g9 N := by
  unfold c_X1_isFranchisee_b0 at hf
  unfold f_X1_isFranchisee_b0
  refine kb1 (a_X_R1 h) ?_
  refine kb1 (a_Bk_R0 h) ?_
  refine kb1 (a_FL_ck h) ?_
  refine kbc (a_FL_n h E) ?_
  refine kbc (b_inRange _ _ _ _ _) ?_
  obtain ⟨_, e188, hf⟩ := zbind hf
  refine kb1 e188 ?_
  cases hf
  exact ⟨rfl, h⟩
def c_X1_isFranchisee (E : zE) (N : iN) (p1 : Int32) (s : cT) (g : zH) : Option (Int32 × (cT × zH)) :=
  c_X1_isFranchisee_b0 E N p1 s g
theorem cs_X1_isFranchisee (E : zE) {s : cT} {g : zH} (h : iH p s g N) {p1 : Int32} (hf : c_X1_isFranchisee E N p1 s g = some (r, (s9, g9))) : f_X1_isFranchisee E (p.1 1) p1 (cH p s g) = some (r, cH p s9 g9) ∧ iH p s9 g9 N := by
  unfold c_X1_isFranchisee at hf
  unfold f_X1_isFranchisee
  exact cs_X1_isFranchisee_b0 E h hf
end
section
variable {p : cP} {N : iN} {r : (Nat ⊕ (Nat × Nat))} {s9 : cT} {g9 : zH}
def c_X1_franchisee_b0 (E : zE) (N : iN) (p1 : Int32) (s : cT) (g : zH) : Option ((Nat ⊕ (Nat × Nat)) × (cT × zH)) :=
  bnd2 (nA g 3 (1 : Int32) (.inl fun _ => 0)) fun q1 g190 =>
  bnd2 (c_X1_isFranchisee E N p1 s g190) fun x7 z192 =>
  (zgd .boolean x7).bind fun _ =>
  (sI z192.2 q1 3 (0 : Int32) x7).bind fun g196 =>
  bnd2 (c_X1_requireIndex E N q1 z192.1 g196) fun x13 z198 =>
  Sum.elim (fun x14 => (
    (cGet N.2.1 p1).bind fun i201 =>
    some (.inl i201, (z198.1, z198.2))
  )) (fun q15 => (
    some (.inr q15, (z198.1, z198.2))
  )) x13
theorem cs_X1_franchisee_b0 (E : zE) {s : cT} {g : zH} (h : iH p s g N) {p1 : Int32} (hf : c_X1_franchisee_b0 E N p1 s g = some (r, (s9, g9))) : f_X1_franchisee_b0 E (p.1 1) p1 (cH p s g) = some (Sum.map (fun i => p.1 (N.1 + 130 + i)) id r, cH p s9 g9) ∧ iH p s9 g9 N ∧ (∀ i, r = .inl i → i < N.2.1) := by
  unfold c_X1_franchisee_b0 at hf
  unfold f_X1_franchisee_b0
  obtain ⟨q1, g190, e189, hf⟩ := zbind2 hf
  have hq_q1 := hq_nA h e189
  refine kbc (k_nA h e189) ?_
  have h := iH_g h (gle_nA e189)
  refine kb1 (a_X_ck h) ?_
  obtain ⟨x7, z192, e191, hf⟩ := zbind2 hf
  obtain ⟨e191, h⟩ := cs_X1_isFranchisee E h e191
  refine kbc e191 ?_
  obtain ⟨_, e194, hf⟩ := zbind hf
  refine kb1 e194 ?_
  obtain ⟨g196, e195, hf⟩ := zbind hf
  refine kb1 ((r_sI hq_q1 _ _ _).trans (congrArg (Option.map (cH p _)) e195)) ?_
  have h := iH_g h (gle_sI e195)
  obtain ⟨x13, z198, e197, hf⟩ := zbind2 hf
  obtain ⟨e197, h⟩ := cs_X1_requireIndex E h hq_q1 e197
  refine kbc e197 ?_
  rcases x13 with x14 | q15
  · have hf := zinl hf
    refine kel0_l ?_
    refine kb1 (a_X_R1 h) ?_
    refine kb1 (a_Bk_R0 h) ?_
    refine kb1 (a_FL_ck h) ?_
    obtain ⟨i201, e200, hf⟩ := zbind hf
    have hi_i201 := cGet_lt e200
    refine kbc (a_FL_G h E e200) ?_
    refine kb1 (a_Fr_ck h hi_i201) ?_
    cases hf
    exact ⟨rfl, h, fun _ e9 => by cases e9; exact hi_i201⟩
  · have hf := zinr hf
    refine kel0_r ?_
    cases hf
    exact ⟨rfl, h, fun _ e9 => by cases e9⟩
def c_X1_franchisee (E : zE) (N : iN) (p1 : Int32) (s : cT) (g : zH) : Option ((Nat ⊕ (Nat × Nat)) × (cT × zH)) :=
  c_X1_franchisee_b0 E N p1 s g
theorem cs_X1_franchisee (E : zE) {s : cT} {g : zH} (h : iH p s g N) {p1 : Int32} (hf : c_X1_franchisee E N p1 s g = some (r, (s9, g9))) : f_X1_franchisee E (p.1 1) p1 (cH p s g) = some (Sum.map (fun i => p.1 (N.1 + 130 + i)) id r, cH p s9 g9) ∧ iH p s9 g9 N ∧ (∀ i, r = .inl i → i < N.2.1) := by
  unfold c_X1_franchisee at hf
  unfold f_X1_franchisee
  exact cs_X1_franchisee_b0 E h hf
end
section
variable {p : cP} {N : iN} {r : Int32} {s9 : cT} {g9 : zH}
def c_X11_isActive_b12 (E : zE) (N : iN) (s0 : Int32) (s : cT) (g : zH) : Option (Int32 × (cT × zH)) :=
  (zgd .boolean s0).bind fun _ =>
  some (s0, (s, g))
theorem cs_X11_isActive_b12 (E : zE) {s : cT} {g : zH} (h : iH p s g N) {s0 : Int32} (hf : c_X11_isActive_b12 E N s0 s g = some (r, (s9, g9))) : f_X11_isActive_b12 E s0 (cH p s g) = some (r, cH p s9 g9) ∧ iH p s9 g9 N := by
  unfold c_X11_isActive_b12 at hf
  unfold f_X11_isActive_b12
  obtain ⟨_, e202, hf⟩ := zbind hf
  refine kb1 e202 ?_
  cases hf
  exact ⟨rfl, h⟩
def c_X11_isActive_b0 (E : zE) (N : iN) (p0 : Nat) (s : cT) (g : zH) : Option (Int32 × (cT × zH)) :=
  if (s.2.1 (N.1 + 130 + p0) 5) = 0 then (
    c_X11_isActive_b12 E N (1 : Int32) s g
  ) else (
    c_X11_isActive_b12 E N (0 : Int32) s g
  )
theorem cs_X11_isActive_b0 (E : zE) {s : cT} {g : zH} (h : iH p s g N) {p0 : Nat} (hi_p0 : p0 < N.2.1) (hf : c_X11_isActive_b0 E N p0 s g = some (r, (s9, g9))) : f_X11_isActive_b0 E (p.1 (N.1 + 130 + p0)) (cH p s g) = some (r, cH p s9 g9) ∧ iH p s9 g9 N := by
  unfold c_X11_isActive_b0 at hf
  unfold f_X11_isActive_b0
  refine kb1 (a_Fr_I5 h hi_p0) ?_
  by_cases c203 : (s.2.1 (N.1 + 130 + p0) 5) = 0
  · have hf := zif_t c203 hf
    refine kif_t c203 ?_
    exact cs_X11_isActive_b12 E h hf
  · have hf := zif_f c203 hf
    refine kif_f c203 ?_
    exact cs_X11_isActive_b12 E h hf
def c_X11_isActive (E : zE) (N : iN) (p0 : Nat) (s : cT) (g : zH) : Option (Int32 × (cT × zH)) :=
  c_X11_isActive_b0 E N p0 s g
theorem cs_X11_isActive (E : zE) {s : cT} {g : zH} (h : iH p s g N) {p0 : Nat} (hi_p0 : p0 < N.2.1) (hf : c_X11_isActive E N p0 s g = some (r, (s9, g9))) : f_X11_isActive E (p.1 (N.1 + 130 + p0)) (cH p s g) = some (r, cH p s9 g9) ∧ iH p s9 g9 N := by
  unfold c_X11_isActive at hf
  unfold f_X11_isActive
  exact cs_X11_isActive_b0 E h hi_p0 hf
end
section
variable {p : cP} {N : iN} {r : (Int64 ⊕ (Nat × Nat))} {s9 : cT} {g9 : zH}
def c_X1_deliver_b162 (E : zE) (N : iN) (p6 : Nat) (s : cT) (g : zH) : Option ((Int64 ⊕ (Nat × Nat)) × (cT × zH)) :=
  some (.inl (s.2.2.1 (N.1 + 170 + p6) 2), (s, g))
theorem cs_X1_deliver_b162 (E : zE) {s : cT} {g : zH} (h : iH p s g N) {p6 : Nat} (hi_p6 : p6 < N.2.2.1) (hf : c_X1_deliver_b162 E N p6 s g = some (r, (s9, g9))) : f_X1_deliver_b162 E (p.1 (N.1 + 170 + p6)) (cH p s g) = some (r, cH p s9 g9) ∧ iH p s9 g9 N := by
  unfold c_X1_deliver_b162 at hf
  unfold f_X1_deliver_b162
  refine kb1 (a_Ou_L2 h hi_p6) ?_
  cases hf
  exact ⟨rfl, h⟩
def c_X1_deliver_b0 (E : zE) (N : iN) (p1 : Int32) (p2 : Int32) (p3 : Int32) (p4 : Int64) (s : cT) (g : zH) : Option ((Int64 ⊕ (Nat × Nat)) × (cT × zH)) :=
  bnd2 (c_X1_outlet E N p1 s g) fun x4 z205 =>
  Sum.elim (fun x5 => (
    bnd2 (nA z205.2 3 (2 : Int32) (.inl fun _ => 0)) fun q7 g208 =>
    bnd2 (c_X1_isPlace E N p2 p3 z205.1 g208) fun x12 z210 =>
    (zgd .boolean x12).bind fun _ =>
    (sI z210.2 q7 3 (0 : Int32) x12).bind fun g214 =>
    (zgd .boolean (if (1 : Int64) ≤ p4 ∧ p4 ≤ (10000000 : Int64) then (1 : Int32) else 0)).bind fun _ =>
    (sI g214 q7 3 (1 : Int32) (if (1 : Int64) ≤ p4 ∧ p4 ≤ (10000000 : Int64) then (1 : Int32) else 0)).bind fun g218 =>
    bnd2 (c_X1_requireArguments E N q7 z210.1 g218) fun x24 z220 =>
    Sum.elim (fun x25 => (
      bnd2 (c_X1_requireMonth E N z220.1 z220.2) fun x30 z223 =>
      Sum.elim (fun x31 => (
        bnd2 (c_X14_isOpen E N x5 z223.1 z223.2) fun x36 z226 =>
        if x36 = 0 then (
          some (.inl (-1 : Int64), (z226.1, z226.2))
        ) else (
          if ((z226.1.2.2.1 (N.1 + 170 + x5) 2) + p4) ≤ (10000000 : Int64) then (
            bnd2 (c_X1_cell E N p2 p3 (uL z226.1 (N.1 + 170 + x5) 2 ((z226.1.2.2.1 (N.1 + 170 + x5) 2) + p4)) z226.2) fun x53 z231 =>
            (cdI z231.1 (N.1 + 16) 900 x53).bind fun x54 =>
            if x54 = (-1 : Int32) then (
              c_X1_deliver_b162 E N x5 z231.1 z231.2
            ) else (
              if x54 = (z231.1.2.1 (N.1 + 170 + x5) 1) then (
                c_X1_deliver_b162 E N x5 z231.1 z231.2
              ) else (
                bnd2 (c_X1_franchisee E N x54 z231.1 z231.2) fun x63 z238 =>
                Sum.elim (fun x64 => (
                  bnd2 (c_X11_isActive E N x64 z238.1 z238.2) fun x69 z241 =>
                  if x69 = 0 then (
                    c_X1_deliver_b162 E N x5 z241.1 z241.2
                  ) else (
                    bnd2 (c_X1_franchisee E N (z241.1.2.1 (N.1 + 170 + x5) 1) z241.1 z241.2) fun x76 z245 =>
                    Sum.elim (fun x77 => (
                      bnd2 (c_X11_isActive E N x77 z245.1 z245.2) fun x82 z248 =>
                      if x82 = 0 then (
                        c_X1_deliver_b162 E N x5 z248.1 z248.2
                      ) else (
                        (cGet 8 (z248.1.2.1 (N.1 + 170 + x5) 1)).bind fun i252 =>
                        (cdL z248.1 (N.1 + 190 + i252) 8 x54).bind fun x92 =>
                        (csL z248.1 (N.1 + 190 + i252) 8 x54 (x92 + p4)).bind fun s256 =>
                        c_X1_deliver_b162 E N x5 s256 z248.2
                      )
                    )) (fun q78 => (
                      some (.inr q78, (z245.1, z245.2))
                    )) x76
                  )
                )) (fun q65 => (
                  some (.inr q65, (z238.1, z238.2))
                )) x63
              )
            )
          ) else (
            some (.inl (-3 : Int64), (z226.1, z226.2))
          )
        )
      )) (fun q32 => (
        some (.inr q32, (z223.1, z223.2))
      )) x30
    )) (fun q26 => (
      some (.inr q26, (z220.1, z220.2))
    )) x24
  )) (fun q6 => (
    some (.inr q6, (z205.1, z205.2))
  )) x4
theorem cs_X1_deliver_b0 (E : zE) {s : cT} {g : zH} (h : iH p s g N) {p1 : Int32} {p2 : Int32} {p3 : Int32} {p4 : Int64} (hf : c_X1_deliver_b0 E N p1 p2 p3 p4 s g = some (r, (s9, g9))) : f_X1_deliver_b0 E (p.1 1) p1 p2 p3 p4 (cH p s g) = some (r, cH p s9 g9) ∧ iH p s9 g9 N := by
  unfold c_X1_deliver_b0 at hf
  unfold f_X1_deliver_b0
  refine kb1 (a_X_ck h) ?_
  obtain ⟨x4, z205, e204, hf⟩ := zbind2 hf
  obtain ⟨e204, h, hr_x4⟩ := cs_X1_outlet E h e204
  refine kbc e204 ?_
  rcases x4 with x5 | q6
  · have hf := zinl hf
    have hi_x5 := hr_x4 _ rfl
    refine kel_l ?_
    obtain ⟨q7, g208, e207, hf⟩ := zbind2 hf
    have hq_q7 := hq_nA h e207
    refine kbc (k_nA h e207) ?_
    have h := iH_g h (gle_nA e207)
    obtain ⟨x12, z210, e209, hf⟩ := zbind2 hf
    obtain ⟨e209, h⟩ := cs_X1_isPlace E h e209
    refine kbc e209 ?_
    obtain ⟨_, e212, hf⟩ := zbind hf
    refine kb1 e212 ?_
    obtain ⟨g214, e213, hf⟩ := zbind hf
    refine kb1 ((r_sI hq_q7 _ _ _).trans (congrArg (Option.map (cH p _)) e213)) ?_
    have h := iH_g h (gle_sI e213)
    refine kbc (b_inRange _ _ _ _ _) ?_
    obtain ⟨_, e216, hf⟩ := zbind hf
    refine kb1 e216 ?_
    obtain ⟨g218, e217, hf⟩ := zbind hf
    refine kb1 ((r_sI hq_q7 _ _ _).trans (congrArg (Option.map (cH p _)) e217)) ?_
    have h := iH_g h (gle_sI e217)
    obtain ⟨x24, z220, e219, hf⟩ := zbind2 hf
    obtain ⟨e219, h⟩ := cs_X1_requireArguments E h hq_q7 e219
    refine kbc e219 ?_
    rcases x24 with x25 | q26
    · have hf := zinl hf
      refine kel0_l ?_
      refine kb1 (a_X_ck h) ?_
      obtain ⟨x30, z223, e222, hf⟩ := zbind2 hf
      obtain ⟨e222, h⟩ := cs_X1_requireMonth E h e222
      refine kbc e222 ?_
      rcases x30 with x31 | q32
      · have hf := zinl hf
        refine kel0_l ?_
        refine kb1 (a_Ou_ck h hi_x5) ?_
        obtain ⟨x36, z226, e225, hf⟩ := zbind2 hf
        obtain ⟨e225, h⟩ := cs_X14_isOpen E h hi_x5 e225
        refine kbc e225 ?_
        by_cases c228 : x36 = 0
        · have hf := zif_t c228 hf
          refine kif_t c228 ?_
          cases hf
          exact ⟨rfl, h⟩
        · have hf := zif_f c228 hf
          refine kif_f c228 ?_
          refine kb1 (a_Ou_L2 h hi_x5) ?_
          by_cases c229 : ((z226.1.2.2.1 (N.1 + 170 + x5) 2) + p4) ≤ (10000000 : Int64)
          · have hf := zif_t c229 hf
            refine kif_t c229 ?_
            refine kb1 (a_Ou_L2 h hi_x5) ?_
            refine kb1 (a_Ou_pL2 h hi_x5 _) ?_
            have h := iH_uL h (N.1 + 170 + x5) 2 ((z226.1.2.2.1 (N.1 + 170 + x5) 2) + p4)
            refine kb1 (a_X_R1 h) ?_
            refine kb1 (a_Bk_R2 h) ?_
            refine kb1 (a_Gr_R0 h) ?_
            obtain ⟨x53, z231, e230, hf⟩ := zbind2 hf
            obtain ⟨e230, h⟩ := cs_X1_cell E h e230
            refine kbc e230 ?_
            obtain ⟨x54, e233, hf⟩ := zbind hf
            obtain ⟨hj234, e233⟩ := cdI_spec e233
            refine kb1 ((a_own_d h hj234).trans (congrArg some e233)) ?_
            by_cases c235 : x54 = (-1 : Int32)
            · have hf := zif_t c235 hf
              refine kif_t c235 ?_
              exact cs_X1_deliver_b162 E h hi_x5 hf
            · have hf := zif_f c235 hf
              refine kif_f c235 ?_
              refine kb1 (a_Ou_I1 h hi_x5) ?_
              by_cases c236 : x54 = (z231.1.2.1 (N.1 + 170 + x5) 1)
              · have hf := zif_t c236 hf
                refine kif_t c236 ?_
                exact cs_X1_deliver_b162 E h hi_x5 hf
              · have hf := zif_f c236 hf
                refine kif_f c236 ?_
                refine kb1 (a_X_ck h) ?_
                obtain ⟨x63, z238, e237, hf⟩ := zbind2 hf
                obtain ⟨e237, h, hr_x63⟩ := cs_X1_franchisee E h e237
                refine kbc e237 ?_
                rcases x63 with x64 | q65
                · have hf := zinl hf
                  have hi_x64 := hr_x63 _ rfl
                  refine kel_l ?_
                  refine kb1 (a_Fr_ck h hi_x64) ?_
                  obtain ⟨x69, z241, e240, hf⟩ := zbind2 hf
                  obtain ⟨e240, h⟩ := cs_X11_isActive E h hi_x64 e240
                  refine kbc e240 ?_
                  by_cases c243 : x69 = 0
                  · have hf := zif_t c243 hf
                    refine kif_t c243 ?_
                    exact cs_X1_deliver_b162 E h hi_x5 hf
                  · have hf := zif_f c243 hf
                    refine kif_f c243 ?_
                    refine kb1 (a_Ou_I1 h hi_x5) ?_
                    refine kb1 (a_X_ck h) ?_
                    obtain ⟨x76, z245, e244, hf⟩ := zbind2 hf
                    obtain ⟨e244, h, hr_x76⟩ := cs_X1_franchisee E h e244
                    refine kbc e244 ?_
                    rcases x76 with x77 | q78
                    · have hf := zinl hf
                      have hi_x77 := hr_x76 _ rfl
                      refine kel_l ?_
                      refine kb1 (a_Fr_ck h hi_x77) ?_
                      obtain ⟨x82, z248, e247, hf⟩ := zbind2 hf
                      obtain ⟨e247, h⟩ := cs_X11_isActive E h hi_x77 e247
                      refine kbc e247 ?_
                      by_cases c250 : x82 = 0
                      · have hf := zif_t c250 hf
                        refine kif_t c250 ?_
                        exact cs_X1_deliver_b162 E h hi_x5 hf
                      · have hf := zif_f c250 hf
                        refine kif_f c250 ?_
                        refine kb1 (a_X_R1 h) ?_
                        refine kb1 (a_Bk_R3 h) ?_
                        refine kb1 (a_Ou_I1 h hi_x5) ?_
                        obtain ⟨i252, e251, hf⟩ := zbind hf
                        have hi_i252 := cGet_lt e251
                        refine kb1 (a_del_G h e251) ?_
                        obtain ⟨x92, e253, hf⟩ := zbind hf
                        obtain ⟨hj254, e253⟩ := cdL_spec e253
                        refine kb1 ((a_row_d h hi_i252 hj254).trans (congrArg some e253)) ?_
                        obtain ⟨s256, e255, hf⟩ := zbind hf
                        obtain ⟨hj257, e255⟩ := csL_spec e255
                        refine kb1 ((a_row_s h hi_i252 hj257 _).trans (congrArg (fun z9 => some (cH p z9 _)) e255)) ?_
                        have h := iH_uL h (N.1 + 190 + i252) (x54).toNatClampNeg (x92 + p4)
                        rw [e255] at h
                        exact cs_X1_deliver_b162 E h hi_x5 hf
                    · have hf := zinr hf
                      refine kel_r ?_
                      cases hf
                      exact ⟨rfl, h⟩
                · have hf := zinr hf
                  refine kel_r ?_
                  cases hf
                  exact ⟨rfl, h⟩
          · have hf := zif_f c229 hf
            refine kif_f c229 ?_
            cases hf
            exact ⟨rfl, h⟩
      · have hf := zinr hf
        refine kel0_r ?_
        cases hf
        exact ⟨rfl, h⟩
    · have hf := zinr hf
      refine kel0_r ?_
      cases hf
      exact ⟨rfl, h⟩
  · have hf := zinr hf
    refine kel_r ?_
    cases hf
    exact ⟨rfl, h⟩
def c_X1_deliver (E : zE) (N : iN) (p1 : Int32) (p2 : Int32) (p3 : Int32) (p4 : Int64) (s : cT) (g : zH) : Option ((Int64 ⊕ (Nat × Nat)) × (cT × zH)) :=
  c_X1_deliver_b0 E N p1 p2 p3 p4 s g
theorem cs_X1_deliver (E : zE) {s : cT} {g : zH} (h : iH p s g N) {p1 : Int32} {p2 : Int32} {p3 : Int32} {p4 : Int64} (hf : c_X1_deliver E N p1 p2 p3 p4 s g = some (r, (s9, g9))) : f_X1_deliver E (p.1 1) p1 p2 p3 p4 (cH p s g) = some (r, cH p s9 g9) ∧ iH p s9 g9 N := by
  unfold c_X1_deliver at hf
  unfold f_X1_deliver
  exact cs_X1_deliver_b0 E h hf
end
section
variable {p : cP} {N : iN} {r : Int32} {s9 : cT} {g9 : zH}
def c_X1_isAmount_b0 (E : zE) (N : iN) (p0 : Int64) (s : cT) (g : zH) : Option (Int32 × (cT × zH)) :=
  (zgd .boolean (if (1 : Int64) ≤ p0 ∧ p0 ≤ (1000000000 : Int64) then (1 : Int32) else 0)).bind fun _ =>
  some ((if (1 : Int64) ≤ p0 ∧ p0 ≤ (1000000000 : Int64) then (1 : Int32) else 0), (s, g))
theorem cs_X1_isAmount_b0 (E : zE) {s : cT} {g : zH} (h : iH p s g N) {p0 : Int64} (hf : c_X1_isAmount_b0 E N p0 s g = some (r, (s9, g9))) : f_X1_isAmount_b0 E p0 (cH p s g) = some (r, cH p s9 g9) ∧ iH p s9 g9 N := by
  unfold c_X1_isAmount_b0 at hf
  unfold f_X1_isAmount_b0
  refine kbc (b_inRange _ _ _ _ _) ?_
  obtain ⟨_, e259, hf⟩ := zbind hf
  refine kb1 e259 ?_
  cases hf
  exact ⟨rfl, h⟩
def c_X1_isAmount (E : zE) (N : iN) (p0 : Int64) (s : cT) (g : zH) : Option (Int32 × (cT × zH)) :=
  c_X1_isAmount_b0 E N p0 s g
theorem cs_X1_isAmount (E : zE) {s : cT} {g : zH} (h : iH p s g N) {p0 : Int64} (hf : c_X1_isAmount E N p0 s g = some (r, (s9, g9))) : f_X1_isAmount E p0 (cH p s g) = some (r, cH p s9 g9) ∧ iH p s9 g9 N := by
  unfold c_X1_isAmount at hf
  unfold f_X1_isAmount
  exact cs_X1_isAmount_b0 E h hf
end
section
variable {p : cP} {N : iN} {r : (Int64 ⊕ (Nat × Nat))} {s9 : cT} {g9 : zH}
def c_X1_pay_b0 (E : zE) (N : iN) (p1 : Int32) (p2 : Int64) (s : cT) (g : zH) : Option ((Int64 ⊕ (Nat × Nat)) × (cT × zH)) :=
  bnd2 (c_X1_franchisee E N p1 s g) fun x4 z261 =>
  Sum.elim (fun x5 => (
    bnd2 (nA z261.2 3 (1 : Int32) (.inl fun _ => 0)) fun q7 g264 =>
    bnd2 (c_X1_isAmount E N p2 z261.1 g264) fun x12 z266 =>
    (zgd .boolean x12).bind fun _ =>
    (sI z266.2 q7 3 (0 : Int32) x12).bind fun g270 =>
    bnd2 (c_X1_requireArguments E N q7 z266.1 g270) fun x18 z272 =>
    Sum.elim (fun x19 => (
      some (.inl ((uL z272.1 (N.1 + 130 + x5) 8 ((z272.1.2.2.1 (N.1 + 130 + x5) 8) - p2)).2.2.1 (N.1 + 130 + x5) 8), ((uL z272.1 (N.1 + 130 + x5) 8 ((z272.1.2.2.1 (N.1 + 130 + x5) 8) - p2)), z272.2))
    )) (fun q20 => (
      some (.inr q20, (z272.1, z272.2))
    )) x18
  )) (fun q6 => (
    some (.inr q6, (z261.1, z261.2))
  )) x4
theorem cs_X1_pay_b0 (E : zE) {s : cT} {g : zH} (h : iH p s g N) {p1 : Int32} {p2 : Int64} (hf : c_X1_pay_b0 E N p1 p2 s g = some (r, (s9, g9))) : f_X1_pay_b0 E (p.1 1) p1 p2 (cH p s g) = some (r, cH p s9 g9) ∧ iH p s9 g9 N := by
  unfold c_X1_pay_b0 at hf
  unfold f_X1_pay_b0
  refine kb1 (a_X_ck h) ?_
  obtain ⟨x4, z261, e260, hf⟩ := zbind2 hf
  obtain ⟨e260, h, hr_x4⟩ := cs_X1_franchisee E h e260
  refine kbc e260 ?_
  rcases x4 with x5 | q6
  · have hf := zinl hf
    have hi_x5 := hr_x4 _ rfl
    refine kel_l ?_
    obtain ⟨q7, g264, e263, hf⟩ := zbind2 hf
    have hq_q7 := hq_nA h e263
    refine kbc (k_nA h e263) ?_
    have h := iH_g h (gle_nA e263)
    obtain ⟨x12, z266, e265, hf⟩ := zbind2 hf
    obtain ⟨e265, h⟩ := cs_X1_isAmount E h e265
    refine kbc e265 ?_
    obtain ⟨_, e268, hf⟩ := zbind hf
    refine kb1 e268 ?_
    obtain ⟨g270, e269, hf⟩ := zbind hf
    refine kb1 ((r_sI hq_q7 _ _ _).trans (congrArg (Option.map (cH p _)) e269)) ?_
    have h := iH_g h (gle_sI e269)
    obtain ⟨x18, z272, e271, hf⟩ := zbind2 hf
    obtain ⟨e271, h⟩ := cs_X1_requireArguments E h hq_q7 e271
    refine kbc e271 ?_
    rcases x18 with x19 | q20
    · have hf := zinl hf
      refine kel0_l ?_
      refine kb1 (a_Fr_L8 h hi_x5) ?_
      refine kb1 (a_Fr_pL8 h hi_x5 _) ?_
      have h := iH_uL h (N.1 + 130 + x5) 8 ((z272.1.2.2.1 (N.1 + 130 + x5) 8) - p2)
      refine kb1 (a_Fr_L8 h hi_x5) ?_
      cases hf
      exact ⟨rfl, h⟩
    · have hf := zinr hf
      refine kel0_r ?_
      cases hf
      exact ⟨rfl, h⟩
  · have hf := zinr hf
    refine kel_r ?_
    cases hf
    exact ⟨rfl, h⟩
def c_X1_pay (E : zE) (N : iN) (p1 : Int32) (p2 : Int64) (s : cT) (g : zH) : Option ((Int64 ⊕ (Nat × Nat)) × (cT × zH)) :=
  c_X1_pay_b0 E N p1 p2 s g
theorem cs_X1_pay (E : zE) {s : cT} {g : zH} (h : iH p s g N) {p1 : Int32} {p2 : Int64} (hf : c_X1_pay E N p1 p2 s g = some (r, (s9, g9))) : f_X1_pay E (p.1 1) p1 p2 (cH p s g) = some (r, cH p s9 g9) ∧ iH p s9 g9 N := by
  unfold c_X1_pay at hf
  unfold f_X1_pay
  exact cs_X1_pay_b0 E h hf
end
section
variable {p : cP} {N : iN} {r : Int64} {s9 : cT} {g9 : zH}
def c_X11_allowance_b0 (E : zE) (N : iN) (p0 : Nat) (s : cT) (g : zH) : Option (Int64 × (cT × zH)) :=
  some ((((s.2.2.1 (N.1 + 130 + p0) 9) / (2 : Int64)) - (s.2.2.1 (N.1 + 130 + p0) 10)), (s, g))
theorem cs_X11_allowance_b0 (E : zE) {s : cT} {g : zH} (h : iH p s g N) {p0 : Nat} (hi_p0 : p0 < N.2.1) (hf : c_X11_allowance_b0 E N p0 s g = some (r, (s9, g9))) : f_X11_allowance_b0 E (p.1 (N.1 + 130 + p0)) (cH p s g) = some (r, cH p s9 g9) ∧ iH p s9 g9 N := by
  unfold c_X11_allowance_b0 at hf
  unfold f_X11_allowance_b0
  refine kb1 (a_Fr_L9 h hi_p0) ?_
  refine kb1 (a_Fr_L10 h hi_p0) ?_
  cases hf
  exact ⟨rfl, h⟩
def c_X11_allowance (E : zE) (N : iN) (p0 : Nat) (s : cT) (g : zH) : Option (Int64 × (cT × zH)) :=
  c_X11_allowance_b0 E N p0 s g
theorem cs_X11_allowance (E : zE) {s : cT} {g : zH} (h : iH p s g N) {p0 : Nat} (hi_p0 : p0 < N.2.1) (hf : c_X11_allowance E N p0 s g = some (r, (s9, g9))) : f_X11_allowance E (p.1 (N.1 + 130 + p0)) (cH p s g) = some (r, cH p s9 g9) ∧ iH p s9 g9 N := by
  unfold c_X11_allowance at hf
  unfold f_X11_allowance
  exact cs_X11_allowance_b0 E h hi_p0 hf
end
section
variable {p : cP} {N : iN} {r : (Int32 ⊕ (Nat × Nat))} {s9 : cT} {g9 : zH}
def c_X1_grant_b50 (E : zE) (N : iN) (s : cT) (g : zH) : Option ((Int32 ⊕ (Nat × Nat)) × (cT × zH)) :=
  some (.inl (0 : Int32), (s, g))
theorem cs_X1_grant_b50 (E : zE) {s : cT} {g : zH} (h : iH p s g N) (hf : c_X1_grant_b50 E N  s g = some (r, (s9, g9))) : f_X1_grant_b50 E  (cH p s g) = some (r, cH p s9 g9) ∧ iH p s9 g9 N := by
  unfold c_X1_grant_b50 at hf
  unfold f_X1_grant_b50
  cases hf
  exact ⟨rfl, h⟩
def c_X1_grant_b0 (E : zE) (N : iN) (p1 : Int32) (p2 : Int64) (s : cT) (g : zH) : Option ((Int32 ⊕ (Nat × Nat)) × (cT × zH)) :=
  bnd2 (c_X1_franchisee E N p1 s g) fun x4 z275 =>
  Sum.elim (fun x5 => (
    bnd2 (nA z275.2 3 (1 : Int32) (.inl fun _ => 0)) fun q7 g278 =>
    bnd2 (c_X1_isAmount E N p2 z275.1 g278) fun x12 z280 =>
    (zgd .boolean x12).bind fun _ =>
    (sI z280.2 q7 3 (0 : Int32) x12).bind fun g284 =>
    bnd2 (c_X1_requireArguments E N q7 z280.1 g284) fun x18 z286 =>
    Sum.elim (fun x19 => (
      bnd2 (c_X11_isActive E N x5 z286.1 z286.2) fun x24 z289 =>
      if x24 = 0 then (
        c_X1_grant_b50 E N z289.1 z289.2
      ) else (
        bnd2 (c_X11_allowance E N x5 z289.1 z289.2) fun x29 z293 =>
        if x29 < p2 then (
          c_X1_grant_b50 E N z293.1 z293.2
        ) else (
          bnd2 (c_X4_fund E N z293.1 z293.2) fun x36 z297 =>
          if p2 ≤ x36 then (
            (cdL (uL (uL z297.1 (N.1 + 130 + x5) 10 ((z297.1.2.2.1 (N.1 + 130 + x5) 10) + p2)) (N.1 + 130 + x5) 8 (((uL z297.1 (N.1 + 130 + x5) 10 ((z297.1.2.2.1 (N.1 + 130 + x5) 10) + p2)).2.2.1 (N.1 + 130 + x5) 8) - p2)) (N.1 + 20) 3 (2 : Int32)).bind fun x50 =>
            (csL (uL (uL z297.1 (N.1 + 130 + x5) 10 ((z297.1.2.2.1 (N.1 + 130 + x5) 10) + p2)) (N.1 + 130 + x5) 8 (((uL z297.1 (N.1 + 130 + x5) 10 ((z297.1.2.2.1 (N.1 + 130 + x5) 10) + p2)).2.2.1 (N.1 + 130 + x5) 8) - p2)) (N.1 + 20) 3 (2 : Int32) (x50 + p2)).bind fun s303 =>
            some (.inl (1 : Int32), (s303, z297.2))
          ) else (
            c_X1_grant_b50 E N z297.1 z297.2
          )
        )
      )
    )) (fun q20 => (
      some (.inr q20, (z286.1, z286.2))
    )) x18
  )) (fun q6 => (
    some (.inr q6, (z275.1, z275.2))
  )) x4
theorem cs_X1_grant_b0 (E : zE) {s : cT} {g : zH} (h : iH p s g N) {p1 : Int32} {p2 : Int64} (hf : c_X1_grant_b0 E N p1 p2 s g = some (r, (s9, g9))) : f_X1_grant_b0 E (p.1 1) p1 p2 (cH p s g) = some (r, cH p s9 g9) ∧ iH p s9 g9 N := by
  unfold c_X1_grant_b0 at hf
  unfold f_X1_grant_b0
  refine kb1 (a_X_ck h) ?_
  obtain ⟨x4, z275, e274, hf⟩ := zbind2 hf
  obtain ⟨e274, h, hr_x4⟩ := cs_X1_franchisee E h e274
  refine kbc e274 ?_
  rcases x4 with x5 | q6
  · have hf := zinl hf
    have hi_x5 := hr_x4 _ rfl
    refine kel_l ?_
    obtain ⟨q7, g278, e277, hf⟩ := zbind2 hf
    have hq_q7 := hq_nA h e277
    refine kbc (k_nA h e277) ?_
    have h := iH_g h (gle_nA e277)
    obtain ⟨x12, z280, e279, hf⟩ := zbind2 hf
    obtain ⟨e279, h⟩ := cs_X1_isAmount E h e279
    refine kbc e279 ?_
    obtain ⟨_, e282, hf⟩ := zbind hf
    refine kb1 e282 ?_
    obtain ⟨g284, e283, hf⟩ := zbind hf
    refine kb1 ((r_sI hq_q7 _ _ _).trans (congrArg (Option.map (cH p _)) e283)) ?_
    have h := iH_g h (gle_sI e283)
    obtain ⟨x18, z286, e285, hf⟩ := zbind2 hf
    obtain ⟨e285, h⟩ := cs_X1_requireArguments E h hq_q7 e285
    refine kbc e285 ?_
    rcases x18 with x19 | q20
    · have hf := zinl hf
      refine kel0_l ?_
      refine kb1 (a_Fr_ck h hi_x5) ?_
      obtain ⟨x24, z289, e288, hf⟩ := zbind2 hf
      obtain ⟨e288, h⟩ := cs_X11_isActive E h hi_x5 e288
      refine kbc e288 ?_
      by_cases c291 : x24 = 0
      · have hf := zif_t c291 hf
        refine kif_t c291 ?_
        exact cs_X1_grant_b50 E h hf
      · have hf := zif_f c291 hf
        refine kif_f c291 ?_
        refine kb1 (a_Fr_ck h hi_x5) ?_
        obtain ⟨x29, z293, e292, hf⟩ := zbind2 hf
        obtain ⟨e292, h⟩ := cs_X11_allowance E h hi_x5 e292
        refine kbc e292 ?_
        by_cases c295 : x29 < p2
        · have hf := zif_t c295 hf
          refine kif_t c295 ?_
          exact cs_X1_grant_b50 E h hf
        · have hf := zif_f c295 hf
          refine kif_f c295 ?_
          refine kb1 (a_X_R1 h) ?_
          refine kb1 (a_Bk_ck h) ?_
          obtain ⟨x36, z297, e296, hf⟩ := zbind2 hf
          obtain ⟨e296, h⟩ := cs_X4_fund E h e296
          refine kbc e296 ?_
          by_cases c299 : p2 ≤ x36
          · have hf := zif_t c299 hf
            refine kif_t c299 ?_
            refine kb1 (a_Fr_L10 h hi_x5) ?_
            refine kb1 (a_Fr_pL10 h hi_x5 _) ?_
            have h := iH_uL h (N.1 + 130 + x5) 10 ((z297.1.2.2.1 (N.1 + 130 + x5) 10) + p2)
            refine kb1 (a_Fr_L8 h hi_x5) ?_
            refine kb1 (a_Fr_pL8 h hi_x5 _) ?_
            have h := iH_uL h (N.1 + 130 + x5) 8 (((uL z297.1 (N.1 + 130 + x5) 10 ((z297.1.2.2.1 (N.1 + 130 + x5) 10) + p2)).2.2.1 (N.1 + 130 + x5) 8) - p2)
            refine kb1 (a_X_R1 h) ?_
            refine kb1 (a_Bk_R4 h) ?_
            obtain ⟨x50, e300, hf⟩ := zbind hf
            obtain ⟨hj301, e300⟩ := cdL_spec e300
            refine kb1 ((a_spe_d h hj301).trans (congrArg some e300)) ?_
            obtain ⟨s303, e302, hf⟩ := zbind hf
            obtain ⟨hj304, e302⟩ := csL_spec e302
            refine kb1 ((a_spe_s h hj304 _).trans (congrArg (fun z9 => some (cH p z9 _)) e302)) ?_
            have h := iH_uL h (N.1 + 20) ((2 : Int32)).toNatClampNeg (x50 + p2)
            rw [e302] at h
            cases hf
            exact ⟨rfl, h⟩
          · have hf := zif_f c299 hf
            refine kif_f c299 ?_
            exact cs_X1_grant_b50 E h hf
    · have hf := zinr hf
      refine kel0_r ?_
      cases hf
      exact ⟨rfl, h⟩
  · have hf := zinr hf
    refine kel_r ?_
    cases hf
    exact ⟨rfl, h⟩
def c_X1_grant (E : zE) (N : iN) (p1 : Int32) (p2 : Int64) (s : cT) (g : zH) : Option ((Int32 ⊕ (Nat × Nat)) × (cT × zH)) :=
  c_X1_grant_b0 E N p1 p2 s g
theorem cs_X1_grant (E : zE) {s : cT} {g : zH} (h : iH p s g N) {p1 : Int32} {p2 : Int64} (hf : c_X1_grant E N p1 p2 s g = some (r, (s9, g9))) : f_X1_grant E (p.1 1) p1 p2 (cH p s g) = some (r, cH p s9 g9) ∧ iH p s9 g9 N := by
  unfold c_X1_grant at hf
  unfold f_X1_grant
  exact cs_X1_grant_b0 E h hf
end
section
variable {p : cP} {N : iN} {r : (Int32 ⊕ (Nat × Nat))} {s9 : cT} {g9 : zH}
def c_X1_campaign_b0 (E : zE) (N : iN) (p1 : Int64) (s : cT) (g : zH) : Option ((Int32 ⊕ (Nat × Nat)) × (cT × zH)) :=
  bnd2 (nA g 3 (1 : Int32) (.inl fun _ => 0)) fun q1 g306 =>
  bnd2 (c_X1_isAmount E N p1 s g306) fun x6 z308 =>
  (zgd .boolean x6).bind fun _ =>
  (sI z308.2 q1 3 (0 : Int32) x6).bind fun g312 =>
  bnd2 (c_X1_requireArguments E N q1 z308.1 g312) fun x12 z314 =>
  Sum.elim (fun x13 => (
    bnd2 (c_X4_fund E N z314.1 z314.2) fun x20 z317 =>
    if p1 ≤ x20 then (
      (cdL z317.1 (N.1 + 20) 3 (1 : Int32)).bind fun x26 =>
      (csL z317.1 (N.1 + 20) 3 (1 : Int32) (x26 + p1)).bind fun s323 =>
      some (.inl (1 : Int32), (s323, z317.2))
    ) else (
      some (.inl (0 : Int32), (z317.1, z317.2))
    )
  )) (fun q14 => (
    some (.inr q14, (z314.1, z314.2))
  )) x12
theorem cs_X1_campaign_b0 (E : zE) {s : cT} {g : zH} (h : iH p s g N) {p1 : Int64} (hf : c_X1_campaign_b0 E N p1 s g = some (r, (s9, g9))) : f_X1_campaign_b0 E (p.1 1) p1 (cH p s g) = some (r, cH p s9 g9) ∧ iH p s9 g9 N := by
  unfold c_X1_campaign_b0 at hf
  unfold f_X1_campaign_b0
  obtain ⟨q1, g306, e305, hf⟩ := zbind2 hf
  have hq_q1 := hq_nA h e305
  refine kbc (k_nA h e305) ?_
  have h := iH_g h (gle_nA e305)
  obtain ⟨x6, z308, e307, hf⟩ := zbind2 hf
  obtain ⟨e307, h⟩ := cs_X1_isAmount E h e307
  refine kbc e307 ?_
  obtain ⟨_, e310, hf⟩ := zbind hf
  refine kb1 e310 ?_
  obtain ⟨g312, e311, hf⟩ := zbind hf
  refine kb1 ((r_sI hq_q1 _ _ _).trans (congrArg (Option.map (cH p _)) e311)) ?_
  have h := iH_g h (gle_sI e311)
  obtain ⟨x12, z314, e313, hf⟩ := zbind2 hf
  obtain ⟨e313, h⟩ := cs_X1_requireArguments E h hq_q1 e313
  refine kbc e313 ?_
  rcases x12 with x13 | q14
  · have hf := zinl hf
    refine kel0_l ?_
    refine kb1 (a_X_R1 h) ?_
    refine kb1 (a_Bk_ck h) ?_
    obtain ⟨x20, z317, e316, hf⟩ := zbind2 hf
    obtain ⟨e316, h⟩ := cs_X4_fund E h e316
    refine kbc e316 ?_
    by_cases c319 : p1 ≤ x20
    · have hf := zif_t c319 hf
      refine kif_t c319 ?_
      refine kb1 (a_X_R1 h) ?_
      refine kb1 (a_Bk_R4 h) ?_
      obtain ⟨x26, e320, hf⟩ := zbind hf
      obtain ⟨hj321, e320⟩ := cdL_spec e320
      refine kb1 ((a_spe_d h hj321).trans (congrArg some e320)) ?_
      obtain ⟨s323, e322, hf⟩ := zbind hf
      obtain ⟨hj324, e322⟩ := csL_spec e322
      refine kb1 ((a_spe_s h hj324 _).trans (congrArg (fun z9 => some (cH p z9 _)) e322)) ?_
      have h := iH_uL h (N.1 + 20) ((1 : Int32)).toNatClampNeg (x26 + p1)
      rw [e322] at h
      cases hf
      exact ⟨rfl, h⟩
    · have hf := zif_f c319 hf
      refine kif_f c319 ?_
      cases hf
      exact ⟨rfl, h⟩
  · have hf := zinr hf
    refine kel0_r ?_
    cases hf
    exact ⟨rfl, h⟩
def c_X1_campaign (E : zE) (N : iN) (p1 : Int64) (s : cT) (g : zH) : Option ((Int32 ⊕ (Nat × Nat)) × (cT × zH)) :=
  c_X1_campaign_b0 E N p1 s g
theorem cs_X1_campaign (E : zE) {s : cT} {g : zH} (h : iH p s g N) {p1 : Int64} (hf : c_X1_campaign E N p1 s g = some (r, (s9, g9))) : f_X1_campaign E (p.1 1) p1 (cH p s g) = some (r, cH p s9 g9) ∧ iH p s9 g9 N := by
  unfold c_X1_campaign at hf
  unfold f_X1_campaign
  exact cs_X1_campaign_b0 E h hf
end
section
variable {p : cP} {N : iN} {r : Int64} {s9 : cT} {g9 : zH}
def c_X4_sales_b69 (E : zE) (N : iN) (k5 : Int32 → Int32 → Int64 → Int32 → cT → zH → Option (Int64 × (cT × zH))) (p1 : Int32) (p2 : Int32) (p5 : Int32) (s0 : Int64) (s1 : Int64) (s : cT) (g : zH) : Option (Int64 × (cT × zH)) :=
  k5 p1 p2 (s0 + s1) (p5 + 1) s g
theorem cs_X4_sales_b69 (E : zE) {K5 : Nat → Int32 → Int32 → Int64 → Int32 → zH → Option (Int64 × zH)} {k5 : Int32 → Int32 → Int64 → Int32 → cT → zH → Option (Int64 × (cT × zH))} (hk5 : ∀ {s : cT} {g : zH} (h : iH p s g N) {p1 : Int32} {p2 : Int32} {p3 : Int64} {p5 : Int32}, k5 p1 p2 p3 p5 s g = some (r, (s9, g9)) → K5 (p.1 (N.1 + 10)) p1 p2 p3 p5 (cH p s g) = some (r, cH p s9 g9) ∧ iH p s9 g9 N) {s : cT} {g : zH} (h : iH p s g N) {p1 : Int32} {p2 : Int32} {p5 : Int32} {s0 : Int64} {s1 : Int64} (hf : c_X4_sales_b69 E N k5 p1 p2 p5 s0 s1 s g = some (r, (s9, g9))) : f_X4_sales_b69 E K5 (p.1 (N.1 + 10)) p1 p2 p5 s0 s1 (cH p s g) = some (r, cH p s9 g9) ∧ iH p s9 g9 N := by
  unfold c_X4_sales_b69 at hf
  unfold f_X4_sales_b69
  exact hk5 h hf
def c_X4_sales_l5 (E : zE) (N : iN) : Nat → Int32 → Int32 → Int64 → Int32 → cT → zH → Option (Int64 × (cT × zH))
  | 0, _, _, _, _, _, _ => none
  | n + 1, p1, p2, p3, p5, s, g =>
    if (Int32.ofNat N.2.2.1) ≤ p5 then (
      some (p3, (s, g))
    ) else (
      (cGet N.2.2.1 p5).bind fun i328 =>
      if (s.2.1 (N.1 + 170 + i328) 1) = p1 then (
        (cGet N.2.2.1 p5).bind fun i331 =>
        c_X4_sales_b69 E N (c_X4_sales_l5 E N n) p1 p2 p5 p3 (((s.2.2.1 (N.1 + 170 + i331) 2) * (p2.toInt64)) / (100 : Int64)) s g
      ) else (
        c_X4_sales_b69 E N (c_X4_sales_l5 E N n) p1 p2 p5 p3 (0 : Int64) s g
      )
    )
theorem cs_X4_sales_l5 (E : zE) : ∀ (n : Nat) {s : cT} {g : zH} (h : iH p s g N) {p1 : Int32} {p2 : Int32} {p3 : Int64} {p5 : Int32}, c_X4_sales_l5 E N n p1 p2 p3 p5 s g = some (r, (s9, g9)) → f_X4_sales_l5 E n (p.1 (N.1 + 10)) p1 p2 p3 p5 (cH p s g) = some (r, cH p s9 g9) ∧ iH p s9 g9 N := by
  intro n
  induction n with
  | zero =>
    intro s g h p1 p2 p3 p5 hf
    cases hf
  | succ n ih =>
    intro s g h p1 p2 p3 p5 hf
    unfold c_X4_sales_l5 at hf
    unfold f_X4_sales_l5
    refine kb1 (a_Bk_R1 h) ?_
    refine kb1 (a_OL_ck h) ?_
    refine kbc (a_OL_n h E) ?_
    by_cases c326 : (Int32.ofNat N.2.2.1) ≤ p5
    · have hf := zif_t c326 hf
      refine kif_t c326 ?_
      cases hf
      exact ⟨rfl, h⟩
    · have hf := zif_f c326 hf
      refine kif_f c326 ?_
      refine kb1 (a_Bk_R1 h) ?_
      refine kb1 (a_OL_ck h) ?_
      obtain ⟨i328, e327, hf⟩ := zbind hf
      have hi_i328 := cGet_lt e327
      refine kbc (a_OL_G h E e327) ?_
      refine kb1 (a_Ou_ck h hi_i328) ?_
      refine kb1 (a_Ou_I1 h hi_i328) ?_
      by_cases c329 : (s.2.1 (N.1 + 170 + i328) 1) = p1
      · have hf := zif_t c329 hf
        refine kif_t c329 ?_
        refine kb1 (a_Bk_R1 h) ?_
        refine kb1 (a_OL_ck h) ?_
        obtain ⟨i331, e330, hf⟩ := zbind hf
        have hi_i331 := cGet_lt e330
        refine kbc (a_OL_G h E e330) ?_
        refine kb1 (a_Ou_ck h hi_i331) ?_
        refine kb1 (a_Ou_L2 h hi_i331) ?_
        exact cs_X4_sales_b69 E ih h hf
      · have hf := zif_f c329 hf
        refine kif_f c329 ?_
        exact cs_X4_sales_b69 E ih h hf
def c_X4_sales_b0 (E : zE) (N : iN) (p1 : Int32) (p2 : Int32) (s : cT) (g : zH) : Option (Int64 × (cT × zH)) :=
  c_X4_sales_l5 E N E.1 p1 p2 (0 : Int64) (0 : Int32) s g
theorem cs_X4_sales_b0 (E : zE) {s : cT} {g : zH} (h : iH p s g N) {p1 : Int32} {p2 : Int32} (hf : c_X4_sales_b0 E N p1 p2 s g = some (r, (s9, g9))) : f_X4_sales_b0 E (p.1 (N.1 + 10)) p1 p2 (cH p s g) = some (r, cH p s9 g9) ∧ iH p s9 g9 N := by
  unfold c_X4_sales_b0 at hf
  unfold f_X4_sales_b0
  exact cs_X4_sales_l5 E E.1 h hf
def c_X4_sales (E : zE) (N : iN) (p1 : Int32) (p2 : Int32) (s : cT) (g : zH) : Option (Int64 × (cT × zH)) :=
  c_X4_sales_b0 E N p1 p2 s g
theorem cs_X4_sales (E : zE) {s : cT} {g : zH} (h : iH p s g N) {p1 : Int32} {p2 : Int32} (hf : c_X4_sales E N p1 p2 s g = some (r, (s9, g9))) : f_X4_sales E (p.1 (N.1 + 10)) p1 p2 (cH p s g) = some (r, cH p s9 g9) ∧ iH p s9 g9 N := by
  unfold c_X4_sales at hf
  unfold f_X4_sales
  exact cs_X4_sales_b0 E h hf
end
section
variable {p : cP} {N : iN} {r : Nat} {s9 : cT} {g9 : zH}
def c_X4_planOf_b0 (E : zE) (N : iN) (p1 : Int32) (s : cT) (g : zH) : Option (Nat × (cT × zH)) :=
  (cGet N.2.1 p1).bind fun i333 =>
  (cGet N.2.2.2.1 (s.2.1 (N.1 + 130 + i333) 3)).bind fun i335 =>
  some (i335, (s, g))
theorem cs_X4_planOf_b0 (E : zE) {s : cT} {g : zH} (h : iH p s g N) {p1 : Int32} (hf : c_X4_planOf_b0 E N p1 s g = some (r, (s9, g9))) : f_X4_planOf_b0 E (p.1 (N.1 + 10)) p1 (cH p s g) = some ((fun i => p.1 (30 + i)) r, cH p s9 g9) ∧ iH p s9 g9 N ∧ r < N.2.2.2.1 := by
  unfold c_X4_planOf_b0 at hf
  unfold f_X4_planOf_b0
  refine kb1 (a_Bk_R6 h) ?_
  refine kb1 (a_X_R0 h) ?_
  refine kb1 (a_Ru_R0 h) ?_
  refine kb1 (a_Bk_R0 h) ?_
  refine kb1 (a_FL_ck h) ?_
  obtain ⟨i333, e332, hf⟩ := zbind hf
  have hi_i333 := cGet_lt e332
  refine kbc (a_FL_G h E e332) ?_
  refine kb1 (a_Fr_ck h hi_i333) ?_
  refine kb1 (a_Fr_I3 h hi_i333) ?_
  refine kb1 (a_PL_ck h) ?_
  obtain ⟨i335, e334, hf⟩ := zbind hf
  have hi_i335 := cGet_lt e334
  refine kbc (a_PL_G h E e334) ?_
  refine kb1 (a_Pl_ck h hi_i335) ?_
  cases hf
  exact ⟨rfl, h, hi_i335⟩
def c_X4_planOf (E : zE) (N : iN) (p1 : Int32) (s : cT) (g : zH) : Option (Nat × (cT × zH)) :=
  c_X4_planOf_b0 E N p1 s g
theorem cs_X4_planOf (E : zE) {s : cT} {g : zH} (h : iH p s g N) {p1 : Int32} (hf : c_X4_planOf E N p1 s g = some (r, (s9, g9))) : f_X4_planOf E (p.1 (N.1 + 10)) p1 (cH p s g) = some ((fun i => p.1 (30 + i)) r, cH p s9 g9) ∧ iH p s9 g9 N ∧ r < N.2.2.2.1 := by
  unfold c_X4_planOf at hf
  unfold f_X4_planOf
  exact cs_X4_planOf_b0 E h hf
end
section
variable {p : cP} {N : iN} {r : Int64} {s9 : cT} {g9 : zH}
def c_X16_rounded_b0 (E : zE) (N : iN) (p0 : Int64) (s : cT) (g : zH) : Option (Int64 × (cT × zH)) :=
  some (((p0 + (5000 : Int64)) / (10000 : Int64)), (s, g))
theorem cs_X16_rounded_b0 (E : zE) {s : cT} {g : zH} (h : iH p s g N) {p0 : Int64} (hf : c_X16_rounded_b0 E N p0 s g = some (r, (s9, g9))) : f_X16_rounded_b0 E p0 (cH p s g) = some (r, cH p s9 g9) ∧ iH p s9 g9 N := by
  unfold c_X16_rounded_b0 at hf
  unfold f_X16_rounded_b0
  cases hf
  exact ⟨rfl, h⟩
def c_X16_rounded (E : zE) (N : iN) (p0 : Int64) (s : cT) (g : zH) : Option (Int64 × (cT × zH)) :=
  c_X16_rounded_b0 E N p0 s g
theorem cs_X16_rounded (E : zE) {s : cT} {g : zH} (h : iH p s g N) {p0 : Int64} (hf : c_X16_rounded E N p0 s g = some (r, (s9, g9))) : f_X16_rounded E p0 (cH p s g) = some (r, cH p s9 g9) ∧ iH p s9 g9 N := by
  unfold c_X16_rounded at hf
  unfold f_X16_rounded
  exact cs_X16_rounded_b0 E h hf
end
section
variable {p : cP} {N : iN} {r : Int64} {s9 : cT} {g9 : zH}
def c_X10_threshold_b0 (E : zE) (N : iN) (p0 p0j : Nat) (s : cT) (g : zH) : Option (Int64 × (cT × zH)) :=
  some ((s.2.2.1 (70 + 8 * p0 + p0j) 0), (s, g))
theorem cs_X10_threshold_b0 (E : zE) {s : cT} {g : zH} (h : iH p s g N) {p0 p0j : Nat} (hi_p0 : p0 < N.2.2.2.1) (hj_p0 : p0j < N.2.2.2.2 p0) (hf : c_X10_threshold_b0 E N p0 p0j s g = some (r, (s9, g9))) : f_X10_threshold_b0 E (p.1 (70 + 8 * p0 + p0j)) (cH p s g) = some (r, cH p s9 g9) ∧ iH p s9 g9 N := by
  unfold c_X10_threshold_b0 at hf
  unfold f_X10_threshold_b0
  refine kb1 (a_Ti_L0 h hi_p0 hj_p0) ?_
  cases hf
  exact ⟨rfl, h⟩
def c_X10_threshold (E : zE) (N : iN) (p0 p0j : Nat) (s : cT) (g : zH) : Option (Int64 × (cT × zH)) :=
  c_X10_threshold_b0 E N p0 p0j s g
theorem cs_X10_threshold (E : zE) {s : cT} {g : zH} (h : iH p s g N) {p0 p0j : Nat} (hi_p0 : p0 < N.2.2.2.1) (hj_p0 : p0j < N.2.2.2.2 p0) (hf : c_X10_threshold E N p0 p0j s g = some (r, (s9, g9))) : f_X10_threshold E (p.1 (70 + 8 * p0 + p0j)) (cH p s g) = some (r, cH p s9 g9) ∧ iH p s9 g9 N := by
  unfold c_X10_threshold at hf
  unfold f_X10_threshold
  exact cs_X10_threshold_b0 E h hi_p0 hj_p0 hf
end
section
variable {p : cP} {N : iN} {r : Int64} {s9 : cT} {g9 : zH}
def c_J12_min_2_b11 (E : zE) (N : iN) (s0 : Int64) (s : cT) (g : zH) : Option (Int64 × (cT × zH)) :=
  some (s0, (s, g))
theorem cs_J12_min_2_b11 (E : zE) {s : cT} {g : zH} (h : iH p s g N) {s0 : Int64} (hf : c_J12_min_2_b11 E N s0 s g = some (r, (s9, g9))) : f_J12_min_2_b11 E s0 (cH p s g) = some (r, cH p s9 g9) ∧ iH p s9 g9 N := by
  unfold c_J12_min_2_b11 at hf
  unfold f_J12_min_2_b11
  cases hf
  exact ⟨rfl, h⟩
def c_J12_min_2_b0 (E : zE) (N : iN) (p0 : Int64) (p2 : Int64) (s : cT) (g : zH) : Option (Int64 × (cT × zH)) :=
  if p2 < p0 then (
    c_J12_min_2_b11 E N p2 s g
  ) else (
    c_J12_min_2_b11 E N p0 s g
  )
theorem cs_J12_min_2_b0 (E : zE) {s : cT} {g : zH} (h : iH p s g N) {p0 : Int64} {p2 : Int64} (hf : c_J12_min_2_b0 E N p0 p2 s g = some (r, (s9, g9))) : f_J12_min_2_b0 E p0 p2 (cH p s g) = some (r, cH p s9 g9) ∧ iH p s9 g9 N := by
  unfold c_J12_min_2_b0 at hf
  unfold f_J12_min_2_b0
  by_cases c336 : p2 < p0
  · have hf := zif_t c336 hf
    refine kif_t c336 ?_
    exact cs_J12_min_2_b11 E h hf
  · have hf := zif_f c336 hf
    refine kif_f c336 ?_
    exact cs_J12_min_2_b11 E h hf
def c_J12_min_2 (E : zE) (N : iN) (p0 : Int64) (p2 : Int64) (s : cT) (g : zH) : Option (Int64 × (cT × zH)) :=
  c_J12_min_2_b0 E N p0 p2 s g
theorem cs_J12_min_2 (E : zE) {s : cT} {g : zH} (h : iH p s g N) {p0 : Int64} {p2 : Int64} (hf : c_J12_min_2 E N p0 p2 s g = some (r, (s9, g9))) : f_J12_min_2 E p0 p2 (cH p s g) = some (r, cH p s9 g9) ∧ iH p s9 g9 N := by
  unfold c_J12_min_2 at hf
  unfold f_J12_min_2
  exact cs_J12_min_2_b0 E h hf
end
section
variable {p : cP} {N : iN} {r : Int32} {s9 : cT} {g9 : zH}
def c_X10_rate_b0 (E : zE) (N : iN) (p0 p0j : Nat) (s : cT) (g : zH) : Option (Int32 × (cT × zH)) :=
  some ((s.2.1 (70 + 8 * p0 + p0j) 1), (s, g))
theorem cs_X10_rate_b0 (E : zE) {s : cT} {g : zH} (h : iH p s g N) {p0 p0j : Nat} (hi_p0 : p0 < N.2.2.2.1) (hj_p0 : p0j < N.2.2.2.2 p0) (hf : c_X10_rate_b0 E N p0 p0j s g = some (r, (s9, g9))) : f_X10_rate_b0 E (p.1 (70 + 8 * p0 + p0j)) (cH p s g) = some (r, cH p s9 g9) ∧ iH p s9 g9 N := by
  unfold c_X10_rate_b0 at hf
  unfold f_X10_rate_b0
  refine kb1 (a_Ti_I1 h hi_p0 hj_p0) ?_
  cases hf
  exact ⟨rfl, h⟩
def c_X10_rate (E : zE) (N : iN) (p0 p0j : Nat) (s : cT) (g : zH) : Option (Int32 × (cT × zH)) :=
  c_X10_rate_b0 E N p0 p0j s g
theorem cs_X10_rate (E : zE) {s : cT} {g : zH} (h : iH p s g N) {p0 p0j : Nat} (hi_p0 : p0 < N.2.2.2.1) (hj_p0 : p0j < N.2.2.2.2 p0) (hf : c_X10_rate E N p0 p0j s g = some (r, (s9, g9))) : f_X10_rate E (p.1 (70 + 8 * p0 + p0j)) (cH p s g) = some (r, cH p s9 g9) ∧ iH p s9 g9 N := by
  unfold c_X10_rate at hf
  unfold f_X10_rate
  exact cs_X10_rate_b0 E h hi_p0 hj_p0 hf
end
section
variable {p : cP} {N : iN} {r : Int64} {s9 : cT} {g9 : zH}
def c_X9_royalty_b60 (E : zE) (N : iN) (k5 : Nat → Int64 → Int64 → Int32 → cT → zH → Option (Int64 × (cT × zH))) (p0 : Nat) (p1 : Int64) (p3 : Int64) (p5 : Int32) (s0 : Int64) (s : cT) (g : zH) : Option (Int64 × (cT × zH)) :=
  bnd2 (c_J12_min_2 E N p1 s0 s g) fun x3 z338 =>
  (cGet (N.2.2.2.2 p0) p5).bind fun i341 =>
  bnd2 (c_X10_threshold E N p0 i341 z338.1 z338.2) fun x14 z343 =>
  bnd2 (c_J12_max_2 E N (0 : Int64) (x3 - x14) z343.1 z343.2) fun x17 z346 =>
  (cGet (N.2.2.2.2 p0) p5).bind fun i349 =>
  bnd2 (c_X10_rate E N p0 i349 z346.1 z346.2) fun x28 z351 =>
  k5 p0 p1 (p3 + (x17 * (x28.toInt64))) (p5 + 1) z351.1 z351.2
theorem cs_X9_royalty_b60 (E : zE) {K5 : Nat → Int64 → Int64 → Int32 → zH → Option (Int64 × zH)} {k5 : Nat → Int64 → Int64 → Int32 → cT → zH → Option (Int64 × (cT × zH))} (hk5 : ∀ {s : cT} {g : zH} (h : iH p s g N) {p0 : Nat} {p1 : Int64} {p3 : Int64} {p5 : Int32} (hi_p0 : p0 < N.2.2.2.1), k5 p0 p1 p3 p5 s g = some (r, (s9, g9)) → K5 (p.1 (30 + p0)) p1 p3 p5 (cH p s g) = some (r, cH p s9 g9) ∧ iH p s9 g9 N) {s : cT} {g : zH} (h : iH p s g N) {p0 : Nat} {p1 : Int64} {p3 : Int64} {p5 : Int32} {s0 : Int64} (hi_p0 : p0 < N.2.2.2.1) (hf : c_X9_royalty_b60 E N k5 p0 p1 p3 p5 s0 s g = some (r, (s9, g9))) : f_X9_royalty_b60 E K5 (p.1 (30 + p0)) p1 p3 p5 s0 (cH p s g) = some (r, cH p s9 g9) ∧ iH p s9 g9 N := by
  unfold c_X9_royalty_b60 at hf
  unfold f_X9_royalty_b60
  obtain ⟨x3, z338, e337, hf⟩ := zbind2 hf
  obtain ⟨e337, h⟩ := cs_J12_min_2 E h e337
  refine kbc e337 ?_
  refine kb1 (a_Pl_R1 h hi_p0) ?_
  refine kb1 (a_TL_ck h hi_p0) ?_
  obtain ⟨i341, e340, hf⟩ := zbind hf
  have hi_i341 := cGet_lt e340
  refine kbc (a_TL_G h hi_p0 E e340) ?_
  refine kb1 (a_Ti_ck h hi_p0 hi_i341) ?_
  refine kb1 (a_Ti_ck h hi_p0 hi_i341) ?_
  obtain ⟨x14, z343, e342, hf⟩ := zbind2 hf
  obtain ⟨e342, h⟩ := cs_X10_threshold E h hi_p0 hi_i341 e342
  refine kbc e342 ?_
  obtain ⟨x17, z346, e345, hf⟩ := zbind2 hf
  obtain ⟨e345, h⟩ := cs_J12_max_2 E h e345
  refine kbc e345 ?_
  refine kb1 (a_Pl_R1 h hi_p0) ?_
  refine kb1 (a_TL_ck h hi_p0) ?_
  obtain ⟨i349, e348, hf⟩ := zbind hf
  have hi_i349 := cGet_lt e348
  refine kbc (a_TL_G h hi_p0 E e348) ?_
  refine kb1 (a_Ti_ck h hi_p0 hi_i349) ?_
  refine kb1 (a_Ti_ck h hi_p0 hi_i349) ?_
  obtain ⟨x28, z351, e350, hf⟩ := zbind2 hf
  obtain ⟨e350, h⟩ := cs_X10_rate E h hi_p0 hi_i349 e350
  refine kbc e350 ?_
  exact hk5 h hi_p0 hf
def c_X9_royalty_l5 (E : zE) (N : iN) : Nat → Nat → Int64 → Int64 → Int32 → cT → zH → Option (Int64 × (cT × zH))
  | 0, _, _, _, _, _, _ => none
  | n + 1, p0, p1, p3, p5, s, g =>
    if (Int32.ofNat (N.2.2.2.2 p0)) ≤ p5 then (
      bnd2 (c_X16_rounded E N p3 s g) fun x10 z356 =>
      some (x10, (z356.1, z356.2))
    ) else (
      if (Int32.ofNat (N.2.2.2.2 p0)) ≤ (p5 + (1 : Int32)) then (
        c_X9_royalty_b60 E N (c_X9_royalty_l5 E N n) p0 p1 p3 p5 (9223372036854775807 : Int64) s g
      ) else (
        (cGet (N.2.2.2.2 p0) (p5 + (1 : Int32))).bind fun i361 =>
        bnd2 (c_X10_threshold E N p0 i361 s g) fun x28 z363 =>
        c_X9_royalty_b60 E N (c_X9_royalty_l5 E N n) p0 p1 p3 p5 x28 z363.1 z363.2
      )
    )
theorem cs_X9_royalty_l5 (E : zE) : ∀ (n : Nat) {s : cT} {g : zH} (h : iH p s g N) {p0 : Nat} {p1 : Int64} {p3 : Int64} {p5 : Int32} (hi_p0 : p0 < N.2.2.2.1), c_X9_royalty_l5 E N n p0 p1 p3 p5 s g = some (r, (s9, g9)) → f_X9_royalty_l5 E n (p.1 (30 + p0)) p1 p3 p5 (cH p s g) = some (r, cH p s9 g9) ∧ iH p s9 g9 N := by
  intro n
  induction n with
  | zero =>
    intro s g h p0 p1 p3 p5 hi_p0 hf
    cases hf
  | succ n ih =>
    intro s g h p0 p1 p3 p5 hi_p0 hf
    unfold c_X9_royalty_l5 at hf
    unfold f_X9_royalty_l5
    refine kb1 (a_Pl_R1 h hi_p0) ?_
    refine kb1 (a_TL_ck h hi_p0) ?_
    refine kbc (a_TL_n h hi_p0 E) ?_
    by_cases c354 : (Int32.ofNat (N.2.2.2.2 p0)) ≤ p5
    · have hf := zif_t c354 hf
      refine kif_t c354 ?_
      obtain ⟨x10, z356, e355, hf⟩ := zbind2 hf
      obtain ⟨e355, h⟩ := cs_X16_rounded E h e355
      refine kbc e355 ?_
      cases hf
      exact ⟨rfl, h⟩
    · have hf := zif_f c354 hf
      refine kif_f c354 ?_
      refine kb1 (a_Pl_R1 h hi_p0) ?_
      refine kb1 (a_TL_ck h hi_p0) ?_
      refine kbc (a_TL_n h hi_p0 E) ?_
      by_cases c359 : (Int32.ofNat (N.2.2.2.2 p0)) ≤ (p5 + (1 : Int32))
      · have hf := zif_t c359 hf
        refine kif_t c359 ?_
        exact cs_X9_royalty_b60 E ih h hi_p0 hf
      · have hf := zif_f c359 hf
        refine kif_f c359 ?_
        refine kb1 (a_Pl_R1 h hi_p0) ?_
        refine kb1 (a_TL_ck h hi_p0) ?_
        obtain ⟨i361, e360, hf⟩ := zbind hf
        have hi_i361 := cGet_lt e360
        refine kbc (a_TL_G h hi_p0 E e360) ?_
        refine kb1 (a_Ti_ck h hi_p0 hi_i361) ?_
        refine kb1 (a_Ti_ck h hi_p0 hi_i361) ?_
        obtain ⟨x28, z363, e362, hf⟩ := zbind2 hf
        obtain ⟨e362, h⟩ := cs_X10_threshold E h hi_p0 hi_i361 e362
        refine kbc e362 ?_
        exact cs_X9_royalty_b60 E ih h hi_p0 hf
def c_X9_royalty_b0 (E : zE) (N : iN) (p0 : Nat) (p1 : Int64) (s : cT) (g : zH) : Option (Int64 × (cT × zH)) :=
  c_X9_royalty_l5 E N E.1 p0 p1 (0 : Int64) (0 : Int32) s g
theorem cs_X9_royalty_b0 (E : zE) {s : cT} {g : zH} (h : iH p s g N) {p0 : Nat} {p1 : Int64} (hi_p0 : p0 < N.2.2.2.1) (hf : c_X9_royalty_b0 E N p0 p1 s g = some (r, (s9, g9))) : f_X9_royalty_b0 E (p.1 (30 + p0)) p1 (cH p s g) = some (r, cH p s9 g9) ∧ iH p s9 g9 N := by
  unfold c_X9_royalty_b0 at hf
  unfold f_X9_royalty_b0
  exact cs_X9_royalty_l5 E E.1 h hi_p0 hf
def c_X9_royalty (E : zE) (N : iN) (p0 : Nat) (p1 : Int64) (s : cT) (g : zH) : Option (Int64 × (cT × zH)) :=
  c_X9_royalty_b0 E N p0 p1 s g
theorem cs_X9_royalty (E : zE) {s : cT} {g : zH} (h : iH p s g N) {p0 : Nat} {p1 : Int64} (hi_p0 : p0 < N.2.2.2.1) (hf : c_X9_royalty E N p0 p1 s g = some (r, (s9, g9))) : f_X9_royalty E (p.1 (30 + p0)) p1 (cH p s g) = some (r, cH p s9 g9) ∧ iH p s9 g9 N := by
  unfold c_X9_royalty at hf
  unfold f_X9_royalty
  exact cs_X9_royalty_b0 E h hi_p0 hf
end
section
variable {p : cP} {N : iN} {r : Int32} {s9 : cT} {g9 : zH}
def c_X3_rate_b0 (E : zE) (N : iN) (p0 : Nat) (s : cT) (g : zH) : Option (Int32 × (cT × zH)) :=
  some ((s.2.1 p0 0), (s, g))
theorem cs_X3_rate_b0 (E : zE) {s : cT} {g : zH} (h : iH p s g N) {p0 : Nat} (hc_p0 : s.1 p0 = (1, 3)) (hf : c_X3_rate_b0 E N p0 s g = some (r, (s9, g9))) : f_X3_rate_b0 E (p.1 p0) (cH p s g) = some (r, cH p s9 g9) ∧ iH p s9 g9 N := by
  unfold c_X3_rate_b0 at hf
  unfold f_X3_rate_b0
  refine kb1 (c_gI h.1 hc_p0 rfl) ?_
  cases hf
  exact ⟨rfl, h⟩
def c_X3_rate (E : zE) (N : iN) (p0 : Nat) (s : cT) (g : zH) : Option (Int32 × (cT × zH)) :=
  c_X3_rate_b0 E N p0 s g
theorem cs_X3_rate (E : zE) {s : cT} {g : zH} (h : iH p s g N) {p0 : Nat} (hc_p0 : s.1 p0 = (1, 3)) (hf : c_X3_rate E N p0 s g = some (r, (s9, g9))) : f_X3_rate E (p.1 p0) (cH p s g) = some (r, cH p s9 g9) ∧ iH p s9 g9 N := by
  unfold c_X3_rate at hf
  unfold f_X3_rate
  exact cs_X3_rate_b0 E h hc_p0 hf
end
section
variable {p : cP} {N : iN} {r : Int64} {s9 : cT} {g9 : zH}
def c_X16_of_b0 (E : zE) (N : iN) (p0 : Nat) (p1 : Int64) (s : cT) (g : zH) : Option (Int64 × (cT × zH)) :=
  bnd2 (c_X3_rate E N p0 s g) fun x4 z367 =>
  bnd2 (c_X16_rounded E N (p1 * (x4.toInt64)) z367.1 z367.2) fun x7 z370 =>
  some (x7, (z370.1, z370.2))
theorem cs_X16_of_b0 (E : zE) {s : cT} {g : zH} (h : iH p s g N) {p0 : Nat} {p1 : Int64} (hc_p0 : s.1 p0 = (1, 3)) (hf : c_X16_of_b0 E N p0 p1 s g = some (r, (s9, g9))) : f_X16_of_b0 E (p.1 p0) p1 (cH p s g) = some (r, cH p s9 g9) ∧ iH p s9 g9 N := by
  unfold c_X16_of_b0 at hf
  unfold f_X16_of_b0
  refine kb1 (c_cko h.1 hc_p0) ?_
  obtain ⟨x4, z367, e366, hf⟩ := zbind2 hf
  obtain ⟨e366, h⟩ := cs_X3_rate E h hc_p0 e366
  refine kbc e366 ?_
  obtain ⟨x7, z370, e369, hf⟩ := zbind2 hf
  obtain ⟨e369, h⟩ := cs_X16_rounded E h e369
  refine kbc e369 ?_
  cases hf
  exact ⟨rfl, h⟩
def c_X16_of (E : zE) (N : iN) (p0 : Nat) (p1 : Int64) (s : cT) (g : zH) : Option (Int64 × (cT × zH)) :=
  c_X16_of_b0 E N p0 p1 s g
theorem cs_X16_of (E : zE) {s : cT} {g : zH} (h : iH p s g N) {p0 : Nat} {p1 : Int64} (hc_p0 : s.1 p0 = (1, 3)) (hf : c_X16_of E N p0 p1 s g = some (r, (s9, g9))) : f_X16_of E (p.1 p0) p1 (cH p s g) = some (r, cH p s9 g9) ∧ iH p s9 g9 N := by
  unfold c_X16_of at hf
  unfold f_X16_of
  exact cs_X16_of_b0 E h hc_p0 hf
end
section
variable {p : cP} {N : iN} {r : Int64} {s9 : cT} {g9 : zH}
def c_X4_credit_b0 (E : zE) (N : iN) (p1 : Int32) (p2 : Int32) (s : cT) (g : zH) : Option (Int64 × (cT × zH)) :=
  (cGet 8 p1).bind fun i373 =>
  (cdL s (N.1 + 190 + i373) 8 p2).bind fun x17 =>
  bnd2 (c_X16_of E N 7 x17 s g) fun x22 z377 =>
  bnd2 (c_J12_min_2 E N (s.2.2.1 2 5) x22 z377.1 z377.2) fun x25 z380 =>
  some (x25, (z380.1, z380.2))
theorem cs_X4_credit_b0 (E : zE) {s : cT} {g : zH} (h : iH p s g N) {p1 : Int32} {p2 : Int32} (hf : c_X4_credit_b0 E N p1 p2 s g = some (r, (s9, g9))) : f_X4_credit_b0 E (p.1 (N.1 + 10)) p1 p2 (cH p s g) = some (r, cH p s9 g9) ∧ iH p s9 g9 N := by
  unfold c_X4_credit_b0 at hf
  unfold f_X4_credit_b0
  refine kb1 (a_Bk_R6 h) ?_
  refine kb1 (a_X_R0 h) ?_
  refine kb1 (a_Ru_L5 h) ?_
  refine kb1 (a_Bk_R6 h) ?_
  refine kb1 (a_X_R0 h) ?_
  refine kb1 (a_Ru_R2 h) ?_
  refine kb1 (a_Bk_R3 h) ?_
  obtain ⟨i373, e372, hf⟩ := zbind hf
  have hi_i373 := cGet_lt e372
  refine kb1 (a_del_G h e372) ?_
  obtain ⟨x17, e374, hf⟩ := zbind hf
  obtain ⟨hj375, e374⟩ := cdL_spec e374
  refine kb1 ((a_row_d h hi_i373 hj375).trans (congrArg some e374)) ?_
  refine kb1 (a_Cr_ck h) ?_
  obtain ⟨x22, z377, e376, hf⟩ := zbind2 hf
  obtain ⟨e376, h⟩ := cs_X16_of E h (a_Cr_sh h) e376
  refine kbc e376 ?_
  obtain ⟨x25, z380, e379, hf⟩ := zbind2 hf
  obtain ⟨e379, h⟩ := cs_J12_min_2 E h e379
  refine kbc e379 ?_
  cases hf
  exact ⟨rfl, h⟩
def c_X4_credit (E : zE) (N : iN) (p1 : Int32) (p2 : Int32) (s : cT) (g : zH) : Option (Int64 × (cT × zH)) :=
  c_X4_credit_b0 E N p1 p2 s g
theorem cs_X4_credit (E : zE) {s : cT} {g : zH} (h : iH p s g N) {p1 : Int32} {p2 : Int32} (hf : c_X4_credit E N p1 p2 s g = some (r, (s9, g9))) : f_X4_credit E (p.1 (N.1 + 10)) p1 p2 (cH p s g) = some (r, cH p s9 g9) ∧ iH p s9 g9 N := by
  unfold c_X4_credit at hf
  unfold f_X4_credit
  exact cs_X4_credit_b0 E h hf
end
section
variable {p : cP} {N : iN} {r : Nat} {s9 : cT} {g9 : zH}
def c_X4_statement_l105 (E : zE) (N : iN) : Nat → Int32 → Nat → Int32 → cT → zH → Option (Nat × (cT × zH))
  | 0, _, _, _, _, _ => none
  | n + 1, p1, p3, p7, s, g =>
    if (Int32.ofNat N.2.1) ≤ p7 then (
      (dL g p3 (0 : Int32)).bind fun x8 =>
      (dL g p3 (1 : Int32)).bind fun x10 =>
      (dL g p3 (2 : Int32)).bind fun x12 =>
      (dL g p3 (3 : Int32)).bind fun x14 =>
      (dL g p3 (4 : Int32)).bind fun x16 =>
      (sL g p3 (5 : Int32) ((((x8 + x10) + x12) + x14) - x16)).bind fun g390 =>
      some (p3, (s, g390))
    ) else (
      (dL g p3 (3 : Int32)).bind fun x20 =>
      bnd2 (c_X4_credit E N p1 p7 s g) fun x25 z393 =>
      (sL z393.2 p3 (3 : Int32) (x20 + x25)).bind fun g396 =>
      (dL g396 p3 (4 : Int32)).bind fun x28 =>
      bnd2 (c_X4_credit E N p7 p1 z393.1 g396) fun x33 z399 =>
      (sL z399.2 p3 (4 : Int32) (x28 + x33)).bind fun g402 =>
      c_X4_statement_l105 E N n p1 p3 (p7 + 1) z399.1 g402
    )
theorem cs_X4_statement_l105 (E : zE) : ∀ (n : Nat) {s : cT} {g : zH} (h : iH p s g N) {p1 : Int32} {p3 : Nat} {p7 : Int32} (hq_p3 : p.2 p3 = none), c_X4_statement_l105 E N n p1 p3 p7 s g = some (r, (s9, g9)) → f_X4_statement_l105 E n (p.1 (N.1 + 10)) p1 p3 p7 (cH p s g) = some (r, cH p s9 g9) ∧ iH p s9 g9 N ∧ p.2 r = none := by
  intro n
  induction n with
  | zero =>
    intro s g h p1 p3 p7 hq_p3 hf
    cases hf
  | succ n ih =>
    intro s g h p1 p3 p7 hq_p3 hf
    unfold c_X4_statement_l105 at hf
    unfold f_X4_statement_l105
    refine kb1 (a_Bk_R0 h) ?_
    refine kb1 (a_FL_ck h) ?_
    refine kbc (a_FL_n h E) ?_
    by_cases c383 : (Int32.ofNat N.2.1) ≤ p7
    · have hf := zif_t c383 hf
      refine kif_t c383 ?_
      obtain ⟨x8, e384, hf⟩ := zbind hf
      refine kb1 ((r_dL hq_p3 _).trans e384) ?_
      obtain ⟨x10, e385, hf⟩ := zbind hf
      refine kb1 ((r_dL hq_p3 _).trans e385) ?_
      obtain ⟨x12, e386, hf⟩ := zbind hf
      refine kb1 ((r_dL hq_p3 _).trans e386) ?_
      obtain ⟨x14, e387, hf⟩ := zbind hf
      refine kb1 ((r_dL hq_p3 _).trans e387) ?_
      obtain ⟨x16, e388, hf⟩ := zbind hf
      refine kb1 ((r_dL hq_p3 _).trans e388) ?_
      obtain ⟨g390, e389, hf⟩ := zbind hf
      refine kb1 ((r_sL hq_p3 _ _).trans (congrArg (Option.map (cH p _)) e389)) ?_
      have h := iH_g h (gle_sL e389)
      cases hf
      exact ⟨rfl, h, hq_p3⟩
    · have hf := zif_f c383 hf
      refine kif_f c383 ?_
      obtain ⟨x20, e391, hf⟩ := zbind hf
      refine kb1 ((r_dL hq_p3 _).trans e391) ?_
      refine kb1 (a_Bk_ck h) ?_
      obtain ⟨x25, z393, e392, hf⟩ := zbind2 hf
      obtain ⟨e392, h⟩ := cs_X4_credit E h e392
      refine kbc e392 ?_
      obtain ⟨g396, e395, hf⟩ := zbind hf
      refine kb1 ((r_sL hq_p3 _ _).trans (congrArg (Option.map (cH p _)) e395)) ?_
      have h := iH_g h (gle_sL e395)
      obtain ⟨x28, e397, hf⟩ := zbind hf
      refine kb1 ((r_dL hq_p3 _).trans e397) ?_
      refine kb1 (a_Bk_ck h) ?_
      obtain ⟨x33, z399, e398, hf⟩ := zbind2 hf
      obtain ⟨e398, h⟩ := cs_X4_credit E h e398
      refine kbc e398 ?_
      obtain ⟨g402, e401, hf⟩ := zbind hf
      refine kb1 ((r_sL hq_p3 _ _).trans (congrArg (Option.map (cH p _)) e401)) ?_
      have h := iH_g h (gle_sL e401)
      exact ih h hq_p3 hf
def c_X4_statement_b101 (E : zE) (N : iN) (p1 : Int32) (p3 : Nat) (s0 : Nat) (s1 : Int32) (s2 : Int64) (s : cT) (g : zH) : Option (Nat × (cT × zH)) :=
  (sL g s0 s1 s2).bind fun g404 =>
  c_X4_statement_l105 E N E.1 p1 p3 (0 : Int32) s g404
theorem cs_X4_statement_b101 (E : zE) {s : cT} {g : zH} (h : iH p s g N) {p1 : Int32} {p3 : Nat} {s0 : Nat} {s1 : Int32} {s2 : Int64} (hq_p3 : p.2 p3 = none) (hq_s0 : p.2 s0 = none) (hf : c_X4_statement_b101 E N p1 p3 s0 s1 s2 s g = some (r, (s9, g9))) : f_X4_statement_b101 E (p.1 (N.1 + 10)) p1 p3 s0 s1 s2 (cH p s g) = some (r, cH p s9 g9) ∧ iH p s9 g9 N ∧ p.2 r = none := by
  unfold c_X4_statement_b101 at hf
  unfold f_X4_statement_b101
  obtain ⟨g404, e403, hf⟩ := zbind hf
  refine kb1 ((r_sL hq_s0 _ _).trans (congrArg (Option.map (cH p _)) e403)) ?_
  have h := iH_g h (gle_sL e403)
  exact cs_X4_statement_l105 E E.1 h hq_p3 hf
def c_X4_statement_b0 (E : zE) (N : iN) (p1 : Int32) (p2 : Int32) (s : cT) (g : zH) : Option (Nat × (cT × zH)) :=
  bnd2 (nA g 1 (7 : Int32) (.inr (.inl fun _ => 0))) fun q1 g406 =>
  (cGet N.2.1 p1).bind fun i408 =>
  bnd2 (c_X11_isActive E N i408 s g406) fun x14 z410 =>
  if x14 = 0 then (
    some (q1, (z410.1, z410.2))
  ) else (
    bnd2 (c_X4_sales E N p1 p2 z410.1 z410.2) fun x19 z414 =>
    bnd2 (c_X4_planOf E N p1 z414.1 z414.2) fun x23 z417 =>
    bnd2 (c_X9_royalty E N x23 x19 z417.1 z417.2) fun x27 z420 =>
    (sL z420.2 q1 (0 : Int32) x27).bind fun g423 =>
    bnd2 (c_X4_planOf E N p1 z420.1 g423) fun x33 z425 =>
    bnd2 (c_X16_of E N (40 + x33) x19 z425.1 z425.2) fun x39 z428 =>
    (sL z428.2 q1 (1 : Int32) x39).bind fun g431 =>
    if (z428.1.2.2.1 (N.1 + 130 + i408) 8) ≤ (0 : Int64) then (
      c_X4_statement_b101 E N p1 q1 q1 (2 : Int32) (0 : Int64) z428.1 g431
    ) else (
      bnd2 (c_X16_of E N 8 (z428.1.2.2.1 (N.1 + 130 + i408) 8) z428.1 g431) fun x56 z434 =>
      c_X4_statement_b101 E N p1 q1 q1 (2 : Int32) x56 z434.1 z434.2
    )
  )
theorem cs_X4_statement_b0 (E : zE) {s : cT} {g : zH} (h : iH p s g N) {p1 : Int32} {p2 : Int32} (hf : c_X4_statement_b0 E N p1 p2 s g = some (r, (s9, g9))) : f_X4_statement_b0 E (p.1 (N.1 + 10)) p1 p2 (cH p s g) = some (r, cH p s9 g9) ∧ iH p s9 g9 N ∧ p.2 r = none := by
  unfold c_X4_statement_b0 at hf
  unfold f_X4_statement_b0
  obtain ⟨q1, g406, e405, hf⟩ := zbind2 hf
  have hq_q1 := hq_nA h e405
  refine kbc (k_nA h e405) ?_
  have h := iH_g h (gle_nA e405)
  refine kb1 (a_Bk_R0 h) ?_
  refine kb1 (a_FL_ck h) ?_
  obtain ⟨i408, e407, hf⟩ := zbind hf
  have hi_i408 := cGet_lt e407
  refine kbc (a_FL_G h E e407) ?_
  refine kb1 (a_Fr_ck h hi_i408) ?_
  refine kb1 (a_Fr_ck h hi_i408) ?_
  obtain ⟨x14, z410, e409, hf⟩ := zbind2 hf
  obtain ⟨e409, h⟩ := cs_X11_isActive E h hi_i408 e409
  refine kbc e409 ?_
  by_cases c412 : x14 = 0
  · have hf := zif_t c412 hf
    refine kif_t c412 ?_
    cases hf
    exact ⟨rfl, h, hq_q1⟩
  · have hf := zif_f c412 hf
    refine kif_f c412 ?_
    refine kb1 (a_Bk_ck h) ?_
    obtain ⟨x19, z414, e413, hf⟩ := zbind2 hf
    obtain ⟨e413, h⟩ := cs_X4_sales E h e413
    refine kbc e413 ?_
    refine kb1 (a_Bk_ck h) ?_
    obtain ⟨x23, z417, e416, hf⟩ := zbind2 hf
    obtain ⟨e416, h, hr_x23⟩ := cs_X4_planOf E h e416
    refine kbc e416 ?_
    have hi_x23 := hr_x23
    refine kb1 (a_Pl_ck h hi_x23) ?_
    obtain ⟨x27, z420, e419, hf⟩ := zbind2 hf
    obtain ⟨e419, h⟩ := cs_X9_royalty E h hi_x23 e419
    refine kbc e419 ?_
    obtain ⟨g423, e422, hf⟩ := zbind hf
    refine kb1 ((r_sL hq_q1 _ _).trans (congrArg (Option.map (cH p _)) e422)) ?_
    have h := iH_g h (gle_sL e422)
    refine kb1 (a_Bk_ck h) ?_
    obtain ⟨x33, z425, e424, hf⟩ := zbind2 hf
    obtain ⟨e424, h, hr_x33⟩ := cs_X4_planOf E h e424
    refine kbc e424 ?_
    have hi_x33 := hr_x33
    refine kb1 (a_Pl_R0 h hi_x33) ?_
    refine kb1 (a_Av_ck h hi_x33) ?_
    obtain ⟨x39, z428, e427, hf⟩ := zbind2 hf
    obtain ⟨e427, h⟩ := cs_X16_of E h (a_Av_sh h hi_x33) e427
    refine kbc e427 ?_
    obtain ⟨g431, e430, hf⟩ := zbind hf
    refine kb1 ((r_sL hq_q1 _ _).trans (congrArg (Option.map (cH p _)) e430)) ?_
    have h := iH_g h (gle_sL e430)
    refine kb1 (a_Fr_L8 h hi_i408) ?_
    by_cases c432 : (z428.1.2.2.1 (N.1 + 130 + i408) 8) ≤ (0 : Int64)
    · have hf := zif_t c432 hf
      refine kif_t c432 ?_
      exact cs_X4_statement_b101 E h hq_q1 hq_q1 hf
    · have hf := zif_f c432 hf
      refine kif_f c432 ?_
      refine kb1 (a_Bk_R6 h) ?_
      refine kb1 (a_X_R0 h) ?_
      refine kb1 (a_Ru_R3 h) ?_
      refine kb1 (a_Fr_L8 h hi_i408) ?_
      refine kb1 (a_In_ck h) ?_
      obtain ⟨x56, z434, e433, hf⟩ := zbind2 hf
      obtain ⟨e433, h⟩ := cs_X16_of E h (a_In_sh h) e433
      refine kbc e433 ?_
      exact cs_X4_statement_b101 E h hq_q1 hq_q1 hf
def c_X4_statement (E : zE) (N : iN) (p1 : Int32) (p2 : Int32) (s : cT) (g : zH) : Option (Nat × (cT × zH)) :=
  c_X4_statement_b0 E N p1 p2 s g
theorem cs_X4_statement (E : zE) {s : cT} {g : zH} (h : iH p s g N) {p1 : Int32} {p2 : Int32} (hf : c_X4_statement E N p1 p2 s g = some (r, (s9, g9))) : f_X4_statement E (p.1 (N.1 + 10)) p1 p2 (cH p s g) = some (r, cH p s9 g9) ∧ iH p s9 g9 N ∧ p.2 r = none := by
  unfold c_X4_statement at hf
  unfold f_X4_statement
  exact cs_X4_statement_b0 E h hf
end
section
variable {p : cP} {N : iN} {r : Unit} {s9 : cT} {g9 : zH}
def c_X4_endMonth_l74 (E : zE) (N : iN) : Nat → Int32 → cT → zH → Option (Unit × (cT × zH))
  | 0, _, _, _ => none
  | n + 1, p1, s, g =>
    if (Int32.ofNat N.2.2.1) ≤ p1 then (
      some ((), ((uI s (N.1 + 10) 5 ((s.2.1 (N.1 + 10) 5) + (1 : Int32))), g))
    ) else (
      (cGet N.2.2.1 p1).bind fun i439 =>
      c_X4_endMonth_l74 E N n (p1 + 1) (uL s (N.1 + 170 + i439) 2 (0 : Int64)) g
    )
theorem cs_X4_endMonth_l74 (E : zE) : ∀ (n : Nat) {s : cT} {g : zH} (h : iH p s g N) {p1 : Int32}, c_X4_endMonth_l74 E N n p1 s g = some (r, (s9, g9)) → f_X4_endMonth_l74 E n (p.1 (N.1 + 10)) p1 (cH p s g) = some (r, cH p s9 g9) ∧ iH p s9 g9 N := by
  intro n
  induction n with
  | zero =>
    intro s g h p1 hf
    cases hf
  | succ n ih =>
    intro s g h p1 hf
    unfold c_X4_endMonth_l74 at hf
    unfold f_X4_endMonth_l74
    refine kb1 (a_Bk_R1 h) ?_
    refine kb1 (a_OL_ck h) ?_
    refine kbc (a_OL_n h E) ?_
    by_cases c437 : (Int32.ofNat N.2.2.1) ≤ p1
    · have hf := zif_t c437 hf
      refine kif_t c437 ?_
      refine kb1 (a_Bk_I5 h) ?_
      refine kb1 (a_Bk_pI5 h _) ?_
      have h := iH_uI h (d := (N.1 + 10)) (by have := h.2.2.2.2.2; exact ⟨by omega, by omega, by omega, fun _ _ => by omega⟩) 5 ((s.2.1 (N.1 + 10) 5) + (1 : Int32))
      cases hf
      exact ⟨rfl, h⟩
    · have hf := zif_f c437 hf
      refine kif_f c437 ?_
      refine kb1 (a_Bk_R1 h) ?_
      refine kb1 (a_OL_ck h) ?_
      obtain ⟨i439, e438, hf⟩ := zbind hf
      have hi_i439 := cGet_lt e438
      refine kbc (a_OL_G h E e438) ?_
      refine kb1 (a_Ou_ck h hi_i439) ?_
      refine kb1 (a_Ou_pL2 h hi_i439 _) ?_
      have h := iH_uL h (N.1 + 170 + i439) 2 (0 : Int64)
      exact ih h hf
def c_X4_endMonth_l45 (E : zE) (N : iN) (k2 : Int32 → cT → zH → Option (Unit × (cT × zH))) : Nat → Int32 → Int32 → cT → zH → Option (Unit × (cT × zH))
  | 0, _, _, _, _ => none
  | n + 1, p1, p2, s, g =>
    if (8 : Int32) ≤ p2 then (
      k2 (p1 + 1) s g
    ) else (
      (cGet 8 p1).bind fun i442 =>
      (csL s (N.1 + 190 + i442) 8 p2 (0 : Int64)).bind fun s444 =>
      c_X4_endMonth_l45 E N k2 n p1 (p2 + 1) s444 g
    )
theorem cs_X4_endMonth_l45 (E : zE) {K2 : Nat → Int32 → zH → Option (Unit × zH)} {k2 : Int32 → cT → zH → Option (Unit × (cT × zH))} (hk2 : ∀ {s : cT} {g : zH} (h : iH p s g N) {p1 : Int32}, k2 p1 s g = some (r, (s9, g9)) → K2 (p.1 (N.1 + 10)) p1 (cH p s g) = some (r, cH p s9 g9) ∧ iH p s9 g9 N) : ∀ (n : Nat) {s : cT} {g : zH} (h : iH p s g N) {p1 : Int32} {p2 : Int32}, c_X4_endMonth_l45 E N k2 n p1 p2 s g = some (r, (s9, g9)) → f_X4_endMonth_l45 E K2 n (p.1 (N.1 + 10)) p1 p2 (cH p s g) = some (r, cH p s9 g9) ∧ iH p s9 g9 N := by
  intro n
  induction n with
  | zero =>
    intro s g h p1 p2 hf
    cases hf
  | succ n ih =>
    intro s g h p1 p2 hf
    unfold c_X4_endMonth_l45 at hf
    unfold f_X4_endMonth_l45
    by_cases c440 : (8 : Int32) ≤ p2
    · have hf := zif_t c440 hf
      refine kif_t c440 ?_
      exact hk2 h hf
    · have hf := zif_f c440 hf
      refine kif_f c440 ?_
      refine kb1 (a_Bk_R3 h) ?_
      obtain ⟨i442, e441, hf⟩ := zbind hf
      have hi_i442 := cGet_lt e441
      refine kb1 (a_del_G h e441) ?_
      obtain ⟨s444, e443, hf⟩ := zbind hf
      obtain ⟨hj445, e443⟩ := csL_spec e443
      refine kb1 ((a_row_s h hi_i442 hj445 _).trans (congrArg (fun z9 => some (cH p z9 _)) e443)) ?_
      have h := iH_uL h (N.1 + 190 + i442) (p2).toNatClampNeg (0 : Int64)
      rw [e443] at h
      exact ih h hf
def c_X4_endMonth_l2 (E : zE) (N : iN) : Nat → Int32 → cT → zH → Option (Unit × (cT × zH))
  | 0, _, _, _ => none
  | n + 1, p1, s, g =>
    if (Int32.ofNat N.2.1) ≤ p1 then (
      c_X4_endMonth_l74 E N E.1 (0 : Int32) s g
    ) else (
      (cGet N.2.1 p1).bind fun i449 =>
      bnd2 (c_X4_sales E N p1 (100 : Int32) s g) fun x22 z451 =>
      (csL z451.1 (N.1 + 160 + i449) 60 (s.2.1 (N.1 + 10) 5) x22).bind fun s454 =>
      c_X4_endMonth_l45 E N (c_X4_endMonth_l2 E N n) E.1 p1 (0 : Int32) s454 z451.2
    )
theorem cs_X4_endMonth_l2 (E : zE) : ∀ (n : Nat) {s : cT} {g : zH} (h : iH p s g N) {p1 : Int32}, c_X4_endMonth_l2 E N n p1 s g = some (r, (s9, g9)) → f_X4_endMonth_l2 E n (p.1 (N.1 + 10)) p1 (cH p s g) = some (r, cH p s9 g9) ∧ iH p s9 g9 N := by
  intro n
  induction n with
  | zero =>
    intro s g h p1 hf
    cases hf
  | succ n ih =>
    intro s g h p1 hf
    unfold c_X4_endMonth_l2 at hf
    unfold f_X4_endMonth_l2
    refine kb1 (a_Bk_R0 h) ?_
    refine kb1 (a_FL_ck h) ?_
    refine kbc (a_FL_n h E) ?_
    by_cases c447 : (Int32.ofNat N.2.1) ≤ p1
    · have hf := zif_t c447 hf
      refine kif_t c447 ?_
      exact cs_X4_endMonth_l74 E E.1 h hf
    · have hf := zif_f c447 hf
      refine kif_f c447 ?_
      refine kb1 (a_Bk_R0 h) ?_
      refine kb1 (a_FL_ck h) ?_
      obtain ⟨i449, e448, hf⟩ := zbind hf
      have hi_i449 := cGet_lt e448
      refine kbc (a_FL_G h E e448) ?_
      refine kb1 (a_Fr_ck h hi_i449) ?_
      refine kb1 (a_Fr_R2 h hi_i449) ?_
      refine kb1 (a_Bk_I5 h) ?_
      refine kb1 (a_Bk_ck h) ?_
      obtain ⟨x22, z451, e450, hf⟩ := zbind2 hf
      obtain ⟨e450, h⟩ := cs_X4_sales E h e450
      refine kbc e450 ?_
      obtain ⟨s454, e453, hf⟩ := zbind hf
      obtain ⟨hj455, e453⟩ := csL_spec e453
      refine kb1 ((a_sal_s h hi_i449 hj455 _).trans (congrArg (fun z9 => some (cH p z9 _)) e453)) ?_
      have h := iH_uL h (N.1 + 160 + i449) ((s.2.1 (N.1 + 10) 5)).toNatClampNeg x22
      rw [e453] at h
      exact cs_X4_endMonth_l45 E ih E.1 h hf
def c_X4_endMonth_b0 (E : zE) (N : iN) (s : cT) (g : zH) : Option (Unit × (cT × zH)) :=
  c_X4_endMonth_l2 E N E.1 (0 : Int32) s g
theorem cs_X4_endMonth_b0 (E : zE) {s : cT} {g : zH} (h : iH p s g N) (hf : c_X4_endMonth_b0 E N  s g = some (r, (s9, g9))) : f_X4_endMonth_b0 E (p.1 (N.1 + 10)) (cH p s g) = some (r, cH p s9 g9) ∧ iH p s9 g9 N := by
  unfold c_X4_endMonth_b0 at hf
  unfold f_X4_endMonth_b0
  exact cs_X4_endMonth_l2 E E.1 h hf
def c_X4_endMonth (E : zE) (N : iN) (s : cT) (g : zH) : Option (Unit × (cT × zH)) :=
  c_X4_endMonth_b0 E N s g
theorem cs_X4_endMonth (E : zE) {s : cT} {g : zH} (h : iH p s g N) (hf : c_X4_endMonth E N  s g = some (r, (s9, g9))) : f_X4_endMonth E (p.1 (N.1 + 10)) (cH p s g) = some (r, cH p s9 g9) ∧ iH p s9 g9 N := by
  unfold c_X4_endMonth at hf
  unfold f_X4_endMonth
  exact cs_X4_endMonth_b0 E h hf
end
section
variable {p : cP} {N : iN} {r : Unit} {s9 : cT} {g9 : zH}
def c_X4_transfer_b35 (E : zE) (N : iN) (s : cT) (g : zH) : Option (Unit × (cT × zH)) :=
  some ((), (s, g))
theorem cs_X4_transfer_b35 (E : zE) {s : cT} {g : zH} (h : iH p s g N) (hf : c_X4_transfer_b35 E N  s g = some (r, (s9, g9))) : f_X4_transfer_b35 E  (cH p s g) = some (r, cH p s9 g9) ∧ iH p s9 g9 N := by
  unfold c_X4_transfer_b35 at hf
  unfold f_X4_transfer_b35
  cases hf
  exact ⟨rfl, h⟩
def c_X4_transfer_b0 (E : zE) (N : iN) (p1 : Nat) (s : cT) (g : zH) : Option (Unit × (cT × zH)) :=
  if (s.2.1 (N.1 + 140 + p1) 0) = (2 : Int32) then (
    if (s.2.1 2 7) ≤ ((s.2.1 (N.1 + 10) 5) - (s.2.1 (N.1 + 140 + p1) 1)) then (
      some ((), ((uL (uI (uI (uI (uI s (N.1 + 140 + p1) 0 (4 : Int32)) (N.1 + 130 + p1) 4 ((uI s (N.1 + 140 + p1) 0 (4 : Int32)).2.1 (N.1 + 140 + p1) 2)) (N.1 + 130 + p1) 6 (((uI (uI s (N.1 + 140 + p1) 0 (4 : Int32)) (N.1 + 130 + p1) 4 ((uI s (N.1 + 140 + p1) 0 (4 : Int32)).2.1 (N.1 + 140 + p1) 2)).2.1 (N.1 + 130 + p1) 6) + (1 : Int32))) (N.1 + 130 + p1) 7 (0 : Int32)) (N.1 + 130 + p1) 8 (((uI (uI (uI (uI s (N.1 + 140 + p1) 0 (4 : Int32)) (N.1 + 130 + p1) 4 ((uI s (N.1 + 140 + p1) 0 (4 : Int32)).2.1 (N.1 + 140 + p1) 2)) (N.1 + 130 + p1) 6 (((uI (uI s (N.1 + 140 + p1) 0 (4 : Int32)) (N.1 + 130 + p1) 4 ((uI s (N.1 + 140 + p1) 0 (4 : Int32)).2.1 (N.1 + 140 + p1) 2)).2.1 (N.1 + 130 + p1) 6) + (1 : Int32))) (N.1 + 130 + p1) 7 (0 : Int32)).2.2.1 (N.1 + 130 + p1) 8) + ((uI (uI (uI (uI s (N.1 + 140 + p1) 0 (4 : Int32)) (N.1 + 130 + p1) 4 ((uI s (N.1 + 140 + p1) 0 (4 : Int32)).2.1 (N.1 + 140 + p1) 2)) (N.1 + 130 + p1) 6 (((uI (uI s (N.1 + 140 + p1) 0 (4 : Int32)) (N.1 + 130 + p1) 4 ((uI s (N.1 + 140 + p1) 0 (4 : Int32)).2.1 (N.1 + 140 + p1) 2)).2.1 (N.1 + 130 + p1) 6) + (1 : Int32))) (N.1 + 130 + p1) 7 (0 : Int32)).2.2.1 2 6))), g))
    ) else (
      c_X4_transfer_b35 E N s g
    )
  ) else (
    c_X4_transfer_b35 E N s g
  )
theorem cs_X4_transfer_b0 (E : zE) {s : cT} {g : zH} (h : iH p s g N) {p1 : Nat} (hi_p1 : p1 < N.2.1) (hf : c_X4_transfer_b0 E N p1 s g = some (r, (s9, g9))) : f_X4_transfer_b0 E (p.1 (N.1 + 10)) (p.1 (N.1 + 130 + p1)) (cH p s g) = some (r, cH p s9 g9) ∧ iH p s9 g9 N := by
  unfold c_X4_transfer_b0 at hf
  unfold f_X4_transfer_b0
  refine kb1 (a_Fr_R0 h hi_p1) ?_
  refine kb1 (a_Tr_I0 h hi_p1) ?_
  by_cases c456 : (s.2.1 (N.1 + 140 + p1) 0) = (2 : Int32)
  · have hf := zif_t c456 hf
    refine kif_t c456 ?_
    refine kb1 (a_Bk_I5 h) ?_
    refine kb1 (a_Tr_I1 h hi_p1) ?_
    refine kb1 (a_Bk_R6 h) ?_
    refine kb1 (a_X_R0 h) ?_
    refine kb1 (a_Ru_I7 h) ?_
    by_cases c457 : (s.2.1 2 7) ≤ ((s.2.1 (N.1 + 10) 5) - (s.2.1 (N.1 + 140 + p1) 1))
    · have hf := zif_t c457 hf
      refine kif_t c457 ?_
      refine kb1 (a_Tr_pI0 h hi_p1 _) ?_
      have h := iH_uI h (d := (N.1 + 140 + p1)) (by have := h.2.2.2.2.2; exact ⟨by omega, by omega, by omega, fun _ _ => by omega⟩) 0 (4 : Int32)
      refine kb1 (a_Tr_I2 h hi_p1) ?_
      refine kb1 (a_Fr_pI4 h hi_p1 _) ?_
      have h := iH_uI h (d := (N.1 + 130 + p1)) (by have := h.2.2.2.2.2; exact ⟨by omega, by omega, by omega, fun _ _ => by omega⟩) 4 ((uI s (N.1 + 140 + p1) 0 (4 : Int32)).2.1 (N.1 + 140 + p1) 2)
      refine kb1 (a_Fr_I6 h hi_p1) ?_
      refine kb1 (a_Fr_pI6 h hi_p1 _) ?_
      have h := iH_uI h (d := (N.1 + 130 + p1)) (by have := h.2.2.2.2.2; exact ⟨by omega, by omega, by omega, fun _ _ => by omega⟩) 6 (((uI (uI s (N.1 + 140 + p1) 0 (4 : Int32)) (N.1 + 130 + p1) 4 ((uI s (N.1 + 140 + p1) 0 (4 : Int32)).2.1 (N.1 + 140 + p1) 2)).2.1 (N.1 + 130 + p1) 6) + (1 : Int32))
      refine kb1 (a_Fr_pI7 h hi_p1 _) ?_
      have h := iH_uI h (d := (N.1 + 130 + p1)) (by have := h.2.2.2.2.2; exact ⟨by omega, by omega, by omega, fun _ _ => by omega⟩) 7 (0 : Int32)
      refine kb1 (a_Fr_L8 h hi_p1) ?_
      refine kb1 (a_Bk_R6 h) ?_
      refine kb1 (a_X_R0 h) ?_
      refine kb1 (a_Ru_L6 h) ?_
      refine kb1 (a_Fr_pL8 h hi_p1 _) ?_
      have h := iH_uL h (N.1 + 130 + p1) 8 (((uI (uI (uI (uI s (N.1 + 140 + p1) 0 (4 : Int32)) (N.1 + 130 + p1) 4 ((uI s (N.1 + 140 + p1) 0 (4 : Int32)).2.1 (N.1 + 140 + p1) 2)) (N.1 + 130 + p1) 6 (((uI (uI s (N.1 + 140 + p1) 0 (4 : Int32)) (N.1 + 130 + p1) 4 ((uI s (N.1 + 140 + p1) 0 (4 : Int32)).2.1 (N.1 + 140 + p1) 2)).2.1 (N.1 + 130 + p1) 6) + (1 : Int32))) (N.1 + 130 + p1) 7 (0 : Int32)).2.2.1 (N.1 + 130 + p1) 8) + ((uI (uI (uI (uI s (N.1 + 140 + p1) 0 (4 : Int32)) (N.1 + 130 + p1) 4 ((uI s (N.1 + 140 + p1) 0 (4 : Int32)).2.1 (N.1 + 140 + p1) 2)) (N.1 + 130 + p1) 6 (((uI (uI s (N.1 + 140 + p1) 0 (4 : Int32)) (N.1 + 130 + p1) 4 ((uI s (N.1 + 140 + p1) 0 (4 : Int32)).2.1 (N.1 + 140 + p1) 2)).2.1 (N.1 + 130 + p1) 6) + (1 : Int32))) (N.1 + 130 + p1) 7 (0 : Int32)).2.2.1 2 6))
      cases hf
      exact ⟨rfl, h⟩
    · have hf := zif_f c457 hf
      refine kif_f c457 ?_
      exact cs_X4_transfer_b35 E h hf
  · have hf := zif_f c456 hf
    refine kif_f c456 ?_
    exact cs_X4_transfer_b35 E h hf
def c_X4_transfer (E : zE) (N : iN) (p1 : Nat) (s : cT) (g : zH) : Option (Unit × (cT × zH)) :=
  c_X4_transfer_b0 E N p1 s g
theorem cs_X4_transfer (E : zE) {s : cT} {g : zH} (h : iH p s g N) {p1 : Nat} (hi_p1 : p1 < N.2.1) (hf : c_X4_transfer E N p1 s g = some (r, (s9, g9))) : f_X4_transfer E (p.1 (N.1 + 10)) (p.1 (N.1 + 130 + p1)) (cH p s g) = some (r, cH p s9 g9) ∧ iH p s9 g9 N := by
  unfold c_X4_transfer at hf
  unfold f_X4_transfer
  exact cs_X4_transfer_b0 E h hi_p1 hf
end
section
variable {p : cP} {N : iN} {r : Int32} {s9 : cT} {g9 : zH}
def c_X12_vote_b65 (E : zE) (N : iN) (p0 : Nat) (s0 : Nat) (s1 : Int32) (s : cT) (g : zH) : Option (Int32 × (cT × zH)) :=
  some (((uI s (N.1 + 140 + s0) 0 s1).2.1 (N.1 + 140 + p0) 0), ((uI s (N.1 + 140 + s0) 0 s1), g))
theorem cs_X12_vote_b65 (E : zE) {s : cT} {g : zH} (h : iH p s g N) {p0 : Nat} {s0 : Nat} {s1 : Int32} (hi_p0 : p0 < N.2.1) (hi_s0 : s0 < N.2.1) (hf : c_X12_vote_b65 E N p0 s0 s1 s g = some (r, (s9, g9))) : f_X12_vote_b65 E (p.1 (N.1 + 140 + p0)) (p.1 (N.1 + 140 + s0)) s1 (cH p s g) = some (r, cH p s9 g9) ∧ iH p s9 g9 N := by
  unfold c_X12_vote_b65 at hf
  unfold f_X12_vote_b65
  refine kb1 (a_Tr_pI0 h hi_s0 _) ?_
  have h := iH_uI h (d := (N.1 + 140 + s0)) (by have := h.2.2.2.2.2; exact ⟨by omega, by omega, by omega, fun _ _ => by omega⟩) 0 s1
  refine kb1 (a_Tr_I0 h hi_p0) ?_
  cases hf
  exact ⟨rfl, h⟩
def c_X12_vote_b39 (E : zE) (N : iN) (p0 : Nat) (s : cT) (g : zH) : Option (Int32 × (cT × zH)) :=
  if (s.2.1 (N.1 + 140 + p0) 3) = (3 : Int32) then (
    c_X12_vote_b65 E N p0 p0 (2 : Int32) s g
  ) else (
    if (s.2.1 (N.1 + 140 + p0) 4) = (3 : Int32) then (
      c_X12_vote_b65 E N p0 p0 (3 : Int32) s g
    ) else (
      c_X12_vote_b65 E N p0 p0 (1 : Int32) s g
    )
  )
theorem cs_X12_vote_b39 (E : zE) {s : cT} {g : zH} (h : iH p s g N) {p0 : Nat} (hi_p0 : p0 < N.2.1) (hf : c_X12_vote_b39 E N p0 s g = some (r, (s9, g9))) : f_X12_vote_b39 E (p.1 (N.1 + 140 + p0)) (cH p s g) = some (r, cH p s9 g9) ∧ iH p s9 g9 N := by
  unfold c_X12_vote_b39 at hf
  unfold f_X12_vote_b39
  refine kb1 (a_Tr_I3 h hi_p0) ?_
  by_cases c475 : (s.2.1 (N.1 + 140 + p0) 3) = (3 : Int32)
  · have hf := zif_t c475 hf
    refine kif_t c475 ?_
    exact cs_X12_vote_b65 E h hi_p0 hi_p0 hf
  · have hf := zif_f c475 hf
    refine kif_f c475 ?_
    refine kb1 (a_Tr_I4 h hi_p0) ?_
    by_cases c476 : (s.2.1 (N.1 + 140 + p0) 4) = (3 : Int32)
    · have hf := zif_t c476 hf
      refine kif_t c476 ?_
      exact cs_X12_vote_b65 E h hi_p0 hi_p0 hf
    · have hf := zif_f c476 hf
      refine kif_f c476 ?_
      exact cs_X12_vote_b65 E h hi_p0 hi_p0 hf
def c_X12_vote_b0 (E : zE) (N : iN) (p0 : Nat) (p1 : Int32) (p2 : Int32) (s : cT) (g : zH) : Option (Int32 × (cT × zH)) :=
  if p2 = 0 then (
    c_X12_vote_b39 E N p0 (uI (uI s (N.1 + 140 + p0) 5 ((s.2.1 (N.1 + 140 + p0) 5) ||| ((1 : Int32) <<< (p1 &&& 31)))) (N.1 + 140 + p0) 4 (((uI s (N.1 + 140 + p0) 5 ((s.2.1 (N.1 + 140 + p0) 5) ||| ((1 : Int32) <<< (p1 &&& 31)))).2.1 (N.1 + 140 + p0) 4) + (1 : Int32))) g
  ) else (
    c_X12_vote_b39 E N p0 (uI (uI s (N.1 + 140 + p0) 5 ((s.2.1 (N.1 + 140 + p0) 5) ||| ((1 : Int32) <<< (p1 &&& 31)))) (N.1 + 140 + p0) 3 (((uI s (N.1 + 140 + p0) 5 ((s.2.1 (N.1 + 140 + p0) 5) ||| ((1 : Int32) <<< (p1 &&& 31)))).2.1 (N.1 + 140 + p0) 3) + (1 : Int32))) g
  )
theorem cs_X12_vote_b0 (E : zE) {s : cT} {g : zH} (h : iH p s g N) {p0 : Nat} {p1 : Int32} {p2 : Int32} (hi_p0 : p0 < N.2.1) (hf : c_X12_vote_b0 E N p0 p1 p2 s g = some (r, (s9, g9))) : f_X12_vote_b0 E (p.1 (N.1 + 140 + p0)) p1 p2 (cH p s g) = some (r, cH p s9 g9) ∧ iH p s9 g9 N := by
  unfold c_X12_vote_b0 at hf
  unfold f_X12_vote_b0
  refine kb1 (a_Tr_I5 h hi_p0) ?_
  refine kb1 (a_Tr_pI5 h hi_p0 _) ?_
  have h := iH_uI h (d := (N.1 + 140 + p0)) (by have := h.2.2.2.2.2; exact ⟨by omega, by omega, by omega, fun _ _ => by omega⟩) 5 ((s.2.1 (N.1 + 140 + p0) 5) ||| ((1 : Int32) <<< (p1 &&& 31)))
  by_cases c477 : p2 = 0
  · have hf := zif_t c477 hf
    refine kif_t c477 ?_
    refine kb1 (a_Tr_I4 h hi_p0) ?_
    refine kb1 (a_Tr_pI4 h hi_p0 _) ?_
    have h := iH_uI h (d := (N.1 + 140 + p0)) (by have := h.2.2.2.2.2; exact ⟨by omega, by omega, by omega, fun _ _ => by omega⟩) 4 (((uI s (N.1 + 140 + p0) 5 ((s.2.1 (N.1 + 140 + p0) 5) ||| ((1 : Int32) <<< (p1 &&& 31)))).2.1 (N.1 + 140 + p0) 4) + (1 : Int32))
    exact cs_X12_vote_b39 E h hi_p0 hf
  · have hf := zif_f c477 hf
    refine kif_f c477 ?_
    refine kb1 (a_Tr_I3 h hi_p0) ?_
    refine kb1 (a_Tr_pI3 h hi_p0 _) ?_
    have h := iH_uI h (d := (N.1 + 140 + p0)) (by have := h.2.2.2.2.2; exact ⟨by omega, by omega, by omega, fun _ _ => by omega⟩) 3 (((uI s (N.1 + 140 + p0) 5 ((s.2.1 (N.1 + 140 + p0) 5) ||| ((1 : Int32) <<< (p1 &&& 31)))).2.1 (N.1 + 140 + p0) 3) + (1 : Int32))
    exact cs_X12_vote_b39 E h hi_p0 hf
def c_X12_vote (E : zE) (N : iN) (p0 : Nat) (p1 : Int32) (p2 : Int32) (s : cT) (g : zH) : Option (Int32 × (cT × zH)) :=
  c_X12_vote_b0 E N p0 p1 p2 s g
theorem cs_X12_vote (E : zE) {s : cT} {g : zH} (h : iH p s g N) {p0 : Nat} {p1 : Int32} {p2 : Int32} (hi_p0 : p0 < N.2.1) (hf : c_X12_vote E N p0 p1 p2 s g = some (r, (s9, g9))) : f_X12_vote E (p.1 (N.1 + 140 + p0)) p1 p2 (cH p s g) = some (r, cH p s9 g9) ∧ iH p s9 g9 N := by
  unfold c_X12_vote at hf
  unfold f_X12_vote
  exact cs_X12_vote_b0 E h hi_p0 hf
end
section
variable {p : cP} {N : iN} {r : (Int32 ⊕ (Nat × Nat))} {s9 : cT} {g9 : zH}
def c_X1_vote_b61 (E : zE) (N : iN) (s0 : Int32) (s : cT) (g : zH) : Option ((Int32 ⊕ (Nat × Nat)) × (cT × zH)) :=
  some (.inl s0, (s, g))
theorem cs_X1_vote_b61 (E : zE) {s : cT} {g : zH} (h : iH p s g N) {s0 : Int32} (hf : c_X1_vote_b61 E N s0 s g = some (r, (s9, g9))) : f_X1_vote_b61 E s0 (cH p s g) = some (r, cH p s9 g9) ∧ iH p s9 g9 N := by
  unfold c_X1_vote_b61 at hf
  unfold f_X1_vote_b61
  cases hf
  exact ⟨rfl, h⟩
def c_X1_vote_b50 (E : zE) (N : iN) (s : cT) (g : zH) : Option ((Int32 ⊕ (Nat × Nat)) × (cT × zH)) :=
  c_X1_vote_b61 E N (-1 : Int32) s g
theorem cs_X1_vote_b50 (E : zE) {s : cT} {g : zH} (h : iH p s g N) (hf : c_X1_vote_b50 E N  s g = some (r, (s9, g9))) : f_X1_vote_b50 E  (cH p s g) = some (r, cH p s9 g9) ∧ iH p s9 g9 N := by
  unfold c_X1_vote_b50 at hf
  unfold f_X1_vote_b50
  exact cs_X1_vote_b61 E h hf
def c_X1_vote_b0 (E : zE) (N : iN) (p1 : Int32) (p2 : Int32) (p3 : Int32) (s : cT) (g : zH) : Option ((Int32 ⊕ (Nat × Nat)) × (cT × zH)) :=
  bnd2 (c_X1_franchisee E N p1 s g) fun x4 z479 =>
  Sum.elim (fun x5 => (
    bnd2 (nA z479.2 3 (1 : Int32) (.inl fun _ => 0)) fun q9 g482 =>
    (zgd .boolean (if (0 : Int64) ≤ (p2.toInt64) ∧ (p2.toInt64) ≤ (4 : Int64) then (1 : Int32) else 0)).bind fun _ =>
    (sI g482 q9 3 (0 : Int32) (if (0 : Int64) ≤ (p2.toInt64) ∧ (p2.toInt64) ≤ (4 : Int64) then (1 : Int32) else 0)).bind fun g486 =>
    bnd2 (c_X1_requireArguments E N q9 z479.1 g486) fun x20 z488 =>
    Sum.elim (fun x21 => (
      if (z488.1.2.1 (N.1 + 140 + x5) 0) = (1 : Int32) then (
        if (((z488.1.2.1 (N.1 + 140 + x5) 5) >>> (p2 &&& 31)) &&& (1 : Int32)) = (1 : Int32) then (
          c_X1_vote_b50 E N z488.1 z488.2
        ) else (
          bnd2 (c_X12_vote E N x5 p2 p3 z488.1 z488.2) fun x32 z493 =>
          c_X1_vote_b61 E N x32 z493.1 z493.2
        )
      ) else (
        c_X1_vote_b50 E N z488.1 z488.2
      )
    )) (fun q22 => (
      some (.inr q22, (z488.1, z488.2))
    )) x20
  )) (fun q6 => (
    some (.inr q6, (z479.1, z479.2))
  )) x4
theorem cs_X1_vote_b0 (E : zE) {s : cT} {g : zH} (h : iH p s g N) {p1 : Int32} {p2 : Int32} {p3 : Int32} (hf : c_X1_vote_b0 E N p1 p2 p3 s g = some (r, (s9, g9))) : f_X1_vote_b0 E (p.1 1) p1 p2 p3 (cH p s g) = some (r, cH p s9 g9) ∧ iH p s9 g9 N := by
  unfold c_X1_vote_b0 at hf
  unfold f_X1_vote_b0
  refine kb1 (a_X_ck h) ?_
  obtain ⟨x4, z479, e478, hf⟩ := zbind2 hf
  obtain ⟨e478, h, hr_x4⟩ := cs_X1_franchisee E h e478
  refine kbc e478 ?_
  rcases x4 with x5 | q6
  · have hf := zinl hf
    have hi_x5 := hr_x4 _ rfl
    refine kel_l ?_
    refine kb1 (a_Fr_R0 h hi_x5) ?_
    obtain ⟨q9, g482, e481, hf⟩ := zbind2 hf
    have hq_q9 := hq_nA h e481
    refine kbc (k_nA h e481) ?_
    have h := iH_g h (gle_nA e481)
    refine kbc (b_inRange _ _ _ _ _) ?_
    obtain ⟨_, e484, hf⟩ := zbind hf
    refine kb1 e484 ?_
    obtain ⟨g486, e485, hf⟩ := zbind hf
    refine kb1 ((r_sI hq_q9 _ _ _).trans (congrArg (Option.map (cH p _)) e485)) ?_
    have h := iH_g h (gle_sI e485)
    obtain ⟨x20, z488, e487, hf⟩ := zbind2 hf
    obtain ⟨e487, h⟩ := cs_X1_requireArguments E h hq_q9 e487
    refine kbc e487 ?_
    rcases x20 with x21 | q22
    · have hf := zinl hf
      refine kel0_l ?_
      refine kb1 (a_Tr_I0 h hi_x5) ?_
      by_cases c490 : (z488.1.2.1 (N.1 + 140 + x5) 0) = (1 : Int32)
      · have hf := zif_t c490 hf
        refine kif_t c490 ?_
        refine kb1 (a_Tr_I5 h hi_x5) ?_
        by_cases c491 : (((z488.1.2.1 (N.1 + 140 + x5) 5) >>> (p2 &&& 31)) &&& (1 : Int32)) = (1 : Int32)
        · have hf := zif_t c491 hf
          refine kif_t c491 ?_
          exact cs_X1_vote_b50 E h hf
        · have hf := zif_f c491 hf
          refine kif_f c491 ?_
          refine kb1 (a_Tr_ck h hi_x5) ?_
          obtain ⟨x32, z493, e492, hf⟩ := zbind2 hf
          obtain ⟨e492, h⟩ := cs_X12_vote E h hi_x5 e492
          refine kbc e492 ?_
          exact cs_X1_vote_b61 E h hf
      · have hf := zif_f c490 hf
        refine kif_f c490 ?_
        exact cs_X1_vote_b50 E h hf
    · have hf := zinr hf
      refine kel0_r ?_
      cases hf
      exact ⟨rfl, h⟩
  · have hf := zinr hf
    refine kel_r ?_
    cases hf
    exact ⟨rfl, h⟩
def c_X1_vote (E : zE) (N : iN) (p1 : Int32) (p2 : Int32) (p3 : Int32) (s : cT) (g : zH) : Option ((Int32 ⊕ (Nat × Nat)) × (cT × zH)) :=
  c_X1_vote_b0 E N p1 p2 p3 s g
theorem cs_X1_vote (E : zE) {s : cT} {g : zH} (h : iH p s g N) {p1 : Int32} {p2 : Int32} {p3 : Int32} (hf : c_X1_vote E N p1 p2 p3 s g = some (r, (s9, g9))) : f_X1_vote E (p.1 1) p1 p2 p3 (cH p s g) = some (r, cH p s9 g9) ∧ iH p s9 g9 N := by
  unfold c_X1_vote at hf
  unfold f_X1_vote
  exact cs_X1_vote_b0 E h hf
end
section
variable {p : cP} {N : iN} {r : (Int32 ⊕ (Nat × Nat))} {s9 : cT} {g9 : zH}
def c_X1_owner_b0 (E : zE) (N : iN) (p1 : Int32) (p2 : Int32) (s : cT) (g : zH) : Option ((Int32 ⊕ (Nat × Nat)) × (cT × zH)) :=
  bnd2 (nA g 3 (1 : Int32) (.inl fun _ => 0)) fun q1 g502 =>
  bnd2 (c_X1_isPlace E N p1 p2 s g502) fun x6 z504 =>
  (zgd .boolean x6).bind fun _ =>
  (sI z504.2 q1 3 (0 : Int32) x6).bind fun g508 =>
  bnd2 (c_X1_requireArguments E N q1 z504.1 g508) fun x12 z510 =>
  Sum.elim (fun x13 => (
    bnd2 (c_X1_cell E N p1 p2 z510.1 z510.2) fun x23 z513 =>
    (cdI z513.1 (N.1 + 16) 900 x23).bind fun x24 =>
    some (.inl x24, (z513.1, z513.2))
  )) (fun q14 => (
    some (.inr q14, (z510.1, z510.2))
  )) x12
theorem cs_X1_owner_b0 (E : zE) {s : cT} {g : zH} (h : iH p s g N) {p1 : Int32} {p2 : Int32} (hf : c_X1_owner_b0 E N p1 p2 s g = some (r, (s9, g9))) : f_X1_owner_b0 E (p.1 1) p1 p2 (cH p s g) = some (r, cH p s9 g9) ∧ iH p s9 g9 N := by
  unfold c_X1_owner_b0 at hf
  unfold f_X1_owner_b0
  obtain ⟨q1, g502, e501, hf⟩ := zbind2 hf
  have hq_q1 := hq_nA h e501
  refine kbc (k_nA h e501) ?_
  have h := iH_g h (gle_nA e501)
  obtain ⟨x6, z504, e503, hf⟩ := zbind2 hf
  obtain ⟨e503, h⟩ := cs_X1_isPlace E h e503
  refine kbc e503 ?_
  obtain ⟨_, e506, hf⟩ := zbind hf
  refine kb1 e506 ?_
  obtain ⟨g508, e507, hf⟩ := zbind hf
  refine kb1 ((r_sI hq_q1 _ _ _).trans (congrArg (Option.map (cH p _)) e507)) ?_
  have h := iH_g h (gle_sI e507)
  obtain ⟨x12, z510, e509, hf⟩ := zbind2 hf
  obtain ⟨e509, h⟩ := cs_X1_requireArguments E h hq_q1 e509
  refine kbc e509 ?_
  rcases x12 with x13 | q14
  · have hf := zinl hf
    refine kel0_l ?_
    refine kb1 (a_X_R1 h) ?_
    refine kb1 (a_Bk_R2 h) ?_
    refine kb1 (a_Gr_R0 h) ?_
    obtain ⟨x23, z513, e512, hf⟩ := zbind2 hf
    obtain ⟨e512, h⟩ := cs_X1_cell E h e512
    refine kbc e512 ?_
    obtain ⟨x24, e515, hf⟩ := zbind hf
    obtain ⟨hj516, e515⟩ := cdI_spec e515
    refine kb1 ((a_own_d h hj516).trans (congrArg some e515)) ?_
    cases hf
    exact ⟨rfl, h⟩
  · have hf := zinr hf
    refine kel0_r ?_
    cases hf
    exact ⟨rfl, h⟩
def c_X1_owner (E : zE) (N : iN) (p1 : Int32) (p2 : Int32) (s : cT) (g : zH) : Option ((Int32 ⊕ (Nat × Nat)) × (cT × zH)) :=
  c_X1_owner_b0 E N p1 p2 s g
theorem cs_X1_owner (E : zE) {s : cT} {g : zH} (h : iH p s g N) {p1 : Int32} {p2 : Int32} (hf : c_X1_owner E N p1 p2 s g = some (r, (s9, g9))) : f_X1_owner E (p.1 1) p1 p2 (cH p s g) = some (r, cH p s9 g9) ∧ iH p s9 g9 N := by
  unfold c_X1_owner at hf
  unfold f_X1_owner
  exact cs_X1_owner_b0 E h hf
end
section
variable {p : cP} {N : iN} {r : Int32} {s9 : cT} {g9 : zH}
def c_X5_area_b27 (E : zE) (N : iN) (k4 : Int32 → Int32 → Int32 → cT → zH → Option (Int32 × (cT × zH))) (p1 : Int32) (p3 : Int32) (s0 : Int32) (s1 : Int32) (s : cT) (g : zH) : Option (Int32 × (cT × zH)) :=
  k4 p1 (s0 + s1) (p3 + 1) s g
theorem cs_X5_area_b27 (E : zE) {K4 : Nat → Int32 → Int32 → Int32 → zH → Option (Int32 × zH)} {k4 : Int32 → Int32 → Int32 → cT → zH → Option (Int32 × (cT × zH))} (hk4 : ∀ {s : cT} {g : zH} (h : iH p s g N) {p1 : Int32} {p2 : Int32} {p3 : Int32}, k4 p1 p2 p3 s g = some (r, (s9, g9)) → K4 (p.1 (N.1 + 15)) p1 p2 p3 (cH p s g) = some (r, cH p s9 g9) ∧ iH p s9 g9 N) {s : cT} {g : zH} (h : iH p s g N) {p1 : Int32} {p3 : Int32} {s0 : Int32} {s1 : Int32} (hf : c_X5_area_b27 E N k4 p1 p3 s0 s1 s g = some (r, (s9, g9))) : f_X5_area_b27 E K4 (p.1 (N.1 + 15)) p1 p3 s0 s1 (cH p s g) = some (r, cH p s9 g9) ∧ iH p s9 g9 N := by
  unfold c_X5_area_b27 at hf
  unfold f_X5_area_b27
  exact hk4 h hf
def c_X5_area_l4 (E : zE) (N : iN) : Nat → Int32 → Int32 → Int32 → cT → zH → Option (Int32 × (cT × zH))
  | 0, _, _, _, _, _ => none
  | n + 1, p1, p2, p3, s, g =>
    if (900 : Int32) ≤ p3 then (
      some (p2, (s, g))
    ) else (
      (cdI s (N.1 + 16) 900 p3).bind fun x4 =>
      if x4 = p1 then (
        c_X5_area_b27 E N (c_X5_area_l4 E N n) p1 p3 p2 (1 : Int32) s g
      ) else (
        c_X5_area_b27 E N (c_X5_area_l4 E N n) p1 p3 p2 (0 : Int32) s g
      )
    )
theorem cs_X5_area_l4 (E : zE) : ∀ (n : Nat) {s : cT} {g : zH} (h : iH p s g N) {p1 : Int32} {p2 : Int32} {p3 : Int32}, c_X5_area_l4 E N n p1 p2 p3 s g = some (r, (s9, g9)) → f_X5_area_l4 E n (p.1 (N.1 + 15)) p1 p2 p3 (cH p s g) = some (r, cH p s9 g9) ∧ iH p s9 g9 N := by
  intro n
  induction n with
  | zero =>
    intro s g h p1 p2 p3 hf
    cases hf
  | succ n ih =>
    intro s g h p1 p2 p3 hf
    unfold c_X5_area_l4 at hf
    unfold f_X5_area_l4
    by_cases c517 : (900 : Int32) ≤ p3
    · have hf := zif_t c517 hf
      refine kif_t c517 ?_
      cases hf
      exact ⟨rfl, h⟩
    · have hf := zif_f c517 hf
      refine kif_f c517 ?_
      refine kb1 (a_Gr_R0 h) ?_
      obtain ⟨x4, e518, hf⟩ := zbind hf
      obtain ⟨hj519, e518⟩ := cdI_spec e518
      refine kb1 ((a_own_d h hj519).trans (congrArg some e518)) ?_
      by_cases c520 : x4 = p1
      · have hf := zif_t c520 hf
        refine kif_t c520 ?_
        exact cs_X5_area_b27 E ih h hf
      · have hf := zif_f c520 hf
        refine kif_f c520 ?_
        exact cs_X5_area_b27 E ih h hf
def c_X5_area_b0 (E : zE) (N : iN) (p1 : Int32) (s : cT) (g : zH) : Option (Int32 × (cT × zH)) :=
  c_X5_area_l4 E N E.1 p1 (0 : Int32) (0 : Int32) s g
theorem cs_X5_area_b0 (E : zE) {s : cT} {g : zH} (h : iH p s g N) {p1 : Int32} (hf : c_X5_area_b0 E N p1 s g = some (r, (s9, g9))) : f_X5_area_b0 E (p.1 (N.1 + 15)) p1 (cH p s g) = some (r, cH p s9 g9) ∧ iH p s9 g9 N := by
  unfold c_X5_area_b0 at hf
  unfold f_X5_area_b0
  exact cs_X5_area_l4 E E.1 h hf
def c_X5_area (E : zE) (N : iN) (p1 : Int32) (s : cT) (g : zH) : Option (Int32 × (cT × zH)) :=
  c_X5_area_b0 E N p1 s g
theorem cs_X5_area (E : zE) {s : cT} {g : zH} (h : iH p s g N) {p1 : Int32} (hf : c_X5_area E N p1 s g = some (r, (s9, g9))) : f_X5_area E (p.1 (N.1 + 15)) p1 (cH p s g) = some (r, cH p s9 g9) ∧ iH p s9 g9 N := by
  unfold c_X5_area at hf
  unfold f_X5_area
  exact cs_X5_area_b0 E h hf
end
section
variable {p : cP} {N : iN} {r : (Int32 ⊕ (Nat × Nat))} {s9 : cT} {g9 : zH}
def c_X1_area_b0 (E : zE) (N : iN) (p1 : Int32) (s : cT) (g : zH) : Option ((Int32 ⊕ (Nat × Nat)) × (cT × zH)) :=
  bnd2 (nA g 3 (1 : Int32) (.inl fun _ => 0)) fun q1 g522 =>
  bnd2 (c_X1_isFranchisee E N p1 s g522) fun x7 z524 =>
  (zgd .boolean x7).bind fun _ =>
  (sI z524.2 q1 3 (0 : Int32) x7).bind fun g528 =>
  bnd2 (c_X1_requireIndex E N q1 z524.1 g528) fun x13 z530 =>
  Sum.elim (fun x14 => (
    bnd2 (c_X5_area E N p1 z530.1 z530.2) fun x23 z533 =>
    some (.inl x23, (z533.1, z533.2))
  )) (fun q15 => (
    some (.inr q15, (z530.1, z530.2))
  )) x13
theorem cs_X1_area_b0 (E : zE) {s : cT} {g : zH} (h : iH p s g N) {p1 : Int32} (hf : c_X1_area_b0 E N p1 s g = some (r, (s9, g9))) : f_X1_area_b0 E (p.1 1) p1 (cH p s g) = some (r, cH p s9 g9) ∧ iH p s9 g9 N := by
  unfold c_X1_area_b0 at hf
  unfold f_X1_area_b0
  obtain ⟨q1, g522, e521, hf⟩ := zbind2 hf
  have hq_q1 := hq_nA h e521
  refine kbc (k_nA h e521) ?_
  have h := iH_g h (gle_nA e521)
  refine kb1 (a_X_ck h) ?_
  obtain ⟨x7, z524, e523, hf⟩ := zbind2 hf
  obtain ⟨e523, h⟩ := cs_X1_isFranchisee E h e523
  refine kbc e523 ?_
  obtain ⟨_, e526, hf⟩ := zbind hf
  refine kb1 e526 ?_
  obtain ⟨g528, e527, hf⟩ := zbind hf
  refine kb1 ((r_sI hq_q1 _ _ _).trans (congrArg (Option.map (cH p _)) e527)) ?_
  have h := iH_g h (gle_sI e527)
  obtain ⟨x13, z530, e529, hf⟩ := zbind2 hf
  obtain ⟨e529, h⟩ := cs_X1_requireIndex E h hq_q1 e529
  refine kbc e529 ?_
  rcases x13 with x14 | q15
  · have hf := zinl hf
    refine kel0_l ?_
    refine kb1 (a_X_R1 h) ?_
    refine kb1 (a_Bk_R2 h) ?_
    refine kb1 (a_Gr_ck h) ?_
    obtain ⟨x23, z533, e532, hf⟩ := zbind2 hf
    obtain ⟨e532, h⟩ := cs_X5_area E h e532
    refine kbc e532 ?_
    cases hf
    exact ⟨rfl, h⟩
  · have hf := zinr hf
    refine kel0_r ?_
    cases hf
    exact ⟨rfl, h⟩
def c_X1_area (E : zE) (N : iN) (p1 : Int32) (s : cT) (g : zH) : Option ((Int32 ⊕ (Nat × Nat)) × (cT × zH)) :=
  c_X1_area_b0 E N p1 s g
theorem cs_X1_area (E : zE) {s : cT} {g : zH} (h : iH p s g N) {p1 : Int32} (hf : c_X1_area E N p1 s g = some (r, (s9, g9))) : f_X1_area E (p.1 1) p1 (cH p s g) = some (r, cH p s9 g9) ∧ iH p s9 g9 N := by
  unfold c_X1_area at hf
  unfold f_X1_area
  exact cs_X1_area_b0 E h hf
end
section
variable {p : cP} {N : iN} {r : Int32} {s9 : cT} {g9 : zH}
def c_X5_neighbour_b82 (E : zE) (N : iN) (s0 : Int32) (s : cT) (g : zH) : Option (Int32 × (cT × zH)) :=
  some (s0, (s, g))
theorem cs_X5_neighbour_b82 (E : zE) {s : cT} {g : zH} (h : iH p s g N) {s0 : Int32} (hf : c_X5_neighbour_b82 E N s0 s g = some (r, (s9, g9))) : f_X5_neighbour_b82 E s0 (cH p s g) = some (r, cH p s9 g9) ∧ iH p s9 g9 N := by
  unfold c_X5_neighbour_b82 at hf
  unfold f_X5_neighbour_b82
  cases hf
  exact ⟨rfl, h⟩
def c_X5_neighbour_b81 (E : zE) (N : iN) (s : cT) (g : zH) : Option (Int32 × (cT × zH)) :=
  c_X5_neighbour_b82 E N (-1 : Int32) s g
theorem cs_X5_neighbour_b81 (E : zE) {s : cT} {g : zH} (h : iH p s g N) (hf : c_X5_neighbour_b81 E N  s g = some (r, (s9, g9))) : f_X5_neighbour_b81 E  (cH p s g) = some (r, cH p s9 g9) ∧ iH p s9 g9 N := by
  unfold c_X5_neighbour_b81 at hf
  unfold f_X5_neighbour_b81
  exact cs_X5_neighbour_b82 E h hf
def c_X5_neighbour_b47 (E : zE) (N : iN) (p2 : Int32) (s0 : Int32) (s1 : Int32) (s : cT) (g : zH) : Option (Int32 × (cT × zH)) :=
  if (if (0 : Int64) ≤ (p2.toInt64) ∧ (p2.toInt64) ≤ (29 : Int64) then (1 : Int32) else 0) = 0 then (
    c_X5_neighbour_b81 E N s g
  ) else (
    if (if (0 : Int64) ≤ ((s0 + s1).toInt64) ∧ ((s0 + s1).toInt64) ≤ (29 : Int64) then (1 : Int32) else 0) = 0 then (
      c_X5_neighbour_b81 E N s g
    ) else (
      bnd2 (c_X1_cell E N p2 (s0 + s1) s g) fun x11 z540 =>
      c_X5_neighbour_b82 E N x11 z540.1 z540.2
    )
  )
theorem cs_X5_neighbour_b47 (E : zE) {s : cT} {g : zH} (h : iH p s g N) {p2 : Int32} {s0 : Int32} {s1 : Int32} (hf : c_X5_neighbour_b47 E N p2 s0 s1 s g = some (r, (s9, g9))) : f_X5_neighbour_b47 E p2 s0 s1 (cH p s g) = some (r, cH p s9 g9) ∧ iH p s9 g9 N := by
  unfold c_X5_neighbour_b47 at hf
  unfold f_X5_neighbour_b47
  refine kbc (b_inRange _ _ _ _ _) ?_
  by_cases c536 : (if (0 : Int64) ≤ (p2.toInt64) ∧ (p2.toInt64) ≤ (29 : Int64) then (1 : Int32) else 0) = 0
  · have hf := zif_t c536 hf
    refine kif_t c536 ?_
    exact cs_X5_neighbour_b81 E h hf
  · have hf := zif_f c536 hf
    refine kif_f c536 ?_
    refine kbc (b_inRange _ _ _ _ _) ?_
    by_cases c538 : (if (0 : Int64) ≤ ((s0 + s1).toInt64) ∧ ((s0 + s1).toInt64) ≤ (29 : Int64) then (1 : Int32) else 0) = 0
    · have hf := zif_t c538 hf
      refine kif_t c538 ?_
      exact cs_X5_neighbour_b81 E h hf
    · have hf := zif_f c538 hf
      refine kif_f c538 ?_
      obtain ⟨x11, z540, e539, hf⟩ := zbind2 hf
      obtain ⟨e539, h⟩ := cs_X1_cell E h e539
      refine kbc e539 ?_
      exact cs_X5_neighbour_b82 E h hf
def c_X5_neighbour_b22 (E : zE) (N : iN) (p0 : Int32) (p1 : Int32) (s0 : Int32) (s1 : Int32) (s : cT) (g : zH) : Option (Int32 × (cT × zH)) :=
  bnd2 (c_X1_row E N p0 s g) fun x3 z543 =>
  if p1 = (2 : Int32) then (
    c_X5_neighbour_b47 E N (s0 + s1) x3 (1 : Int32) z543.1 z543.2
  ) else (
    if p1 = (3 : Int32) then (
      c_X5_neighbour_b47 E N (s0 + s1) x3 (-1 : Int32) z543.1 z543.2
    ) else (
      c_X5_neighbour_b47 E N (s0 + s1) x3 (0 : Int32) z543.1 z543.2
    )
  )
theorem cs_X5_neighbour_b22 (E : zE) {s : cT} {g : zH} (h : iH p s g N) {p0 : Int32} {p1 : Int32} {s0 : Int32} {s1 : Int32} (hf : c_X5_neighbour_b22 E N p0 p1 s0 s1 s g = some (r, (s9, g9))) : f_X5_neighbour_b22 E p0 p1 s0 s1 (cH p s g) = some (r, cH p s9 g9) ∧ iH p s9 g9 N := by
  unfold c_X5_neighbour_b22 at hf
  unfold f_X5_neighbour_b22
  obtain ⟨x3, z543, e542, hf⟩ := zbind2 hf
  obtain ⟨e542, h⟩ := cs_X1_row E h e542
  refine kbc e542 ?_
  by_cases c545 : p1 = (2 : Int32)
  · have hf := zif_t c545 hf
    refine kif_t c545 ?_
    exact cs_X5_neighbour_b47 E h hf
  · have hf := zif_f c545 hf
    refine kif_f c545 ?_
    by_cases c546 : p1 = (3 : Int32)
    · have hf := zif_t c546 hf
      refine kif_t c546 ?_
      exact cs_X5_neighbour_b47 E h hf
    · have hf := zif_f c546 hf
      refine kif_f c546 ?_
      exact cs_X5_neighbour_b47 E h hf
def c_X5_neighbour_b0 (E : zE) (N : iN) (p0 : Int32) (p1 : Int32) (s : cT) (g : zH) : Option (Int32 × (cT × zH)) :=
  bnd2 (c_X1_column E N p0 s g) fun x3 z548 =>
  if p1 = 0 then (
    c_X5_neighbour_b22 E N p0 p1 x3 (1 : Int32) z548.1 z548.2
  ) else (
    if p1 = (1 : Int32) then (
      c_X5_neighbour_b22 E N p0 p1 x3 (-1 : Int32) z548.1 z548.2
    ) else (
      c_X5_neighbour_b22 E N p0 p1 x3 (0 : Int32) z548.1 z548.2
    )
  )
theorem cs_X5_neighbour_b0 (E : zE) {s : cT} {g : zH} (h : iH p s g N) {p0 : Int32} {p1 : Int32} (hf : c_X5_neighbour_b0 E N p0 p1 s g = some (r, (s9, g9))) : f_X5_neighbour_b0 E p0 p1 (cH p s g) = some (r, cH p s9 g9) ∧ iH p s9 g9 N := by
  unfold c_X5_neighbour_b0 at hf
  unfold f_X5_neighbour_b0
  obtain ⟨x3, z548, e547, hf⟩ := zbind2 hf
  obtain ⟨e547, h⟩ := cs_X1_column E h e547
  refine kbc e547 ?_
  by_cases c550 : p1 = 0
  · have hf := zif_t c550 hf
    refine kif_t c550 ?_
    exact cs_X5_neighbour_b22 E h hf
  · have hf := zif_f c550 hf
    refine kif_f c550 ?_
    by_cases c551 : p1 = (1 : Int32)
    · have hf := zif_t c551 hf
      refine kif_t c551 ?_
      exact cs_X5_neighbour_b22 E h hf
    · have hf := zif_f c551 hf
      refine kif_f c551 ?_
      exact cs_X5_neighbour_b22 E h hf
def c_X5_neighbour (E : zE) (N : iN) (p0 : Int32) (p1 : Int32) (s : cT) (g : zH) : Option (Int32 × (cT × zH)) :=
  c_X5_neighbour_b0 E N p0 p1 s g
theorem cs_X5_neighbour (E : zE) {s : cT} {g : zH} (h : iH p s g N) {p0 : Int32} {p1 : Int32} (hf : c_X5_neighbour E N p0 p1 s g = some (r, (s9, g9))) : f_X5_neighbour E p0 p1 (cH p s g) = some (r, cH p s9 g9) ∧ iH p s9 g9 N := by
  unfold c_X5_neighbour at hf
  unfold f_X5_neighbour
  exact cs_X5_neighbour_b0 E h hf
end
section
variable {p : cP} {N : iN} {r : Int32} {s9 : cT} {g9 : zH}
def c_X5_perimeter_b69 (E : zE) (N : iN) (k4 : Int32 → Int32 → Int32 → cT → zH → Option (Int32 × (cT × zH))) (p1 : Int32) (p2 : Int32) (p3 : Int32) (s : cT) (g : zH) : Option (Int32 × (cT × zH)) :=
  k4 p1 p2 (p3 + 1) s g
theorem cs_X5_perimeter_b69 (E : zE) {K4 : Nat → Int32 → Int32 → Int32 → zH → Option (Int32 × zH)} {k4 : Int32 → Int32 → Int32 → cT → zH → Option (Int32 × (cT × zH))} (hk4 : ∀ {s : cT} {g : zH} (h : iH p s g N) {p1 : Int32} {p2 : Int32} {p3 : Int32}, k4 p1 p2 p3 s g = some (r, (s9, g9)) → K4 (p.1 (N.1 + 15)) p1 p2 p3 (cH p s g) = some (r, cH p s9 g9) ∧ iH p s9 g9 N) {s : cT} {g : zH} (h : iH p s g N) {p1 : Int32} {p2 : Int32} {p3 : Int32} (hf : c_X5_perimeter_b69 E N k4 p1 p2 p3 s g = some (r, (s9, g9))) : f_X5_perimeter_b69 E K4 (p.1 (N.1 + 15)) p1 p2 p3 (cH p s g) = some (r, cH p s9 g9) ∧ iH p s9 g9 N := by
  unfold c_X5_perimeter_b69 at hf
  unfold f_X5_perimeter_b69
  exact hk4 h hf
def c_X5_perimeter_b61 (E : zE) (N : iN) (k4 : Int32 → Int32 → Int32 → cT → zH → Option (Int32 × (cT × zH))) (k14 : Int32 → Int32 → Int32 → Int32 → cT → zH → Option (Int32 × (cT × zH))) (p1 : Int32) (p3 : Int32) (p4 : Int32) (s0 : Int32) (s1 : Int32) (s : cT) (g : zH) : Option (Int32 × (cT × zH)) :=
  k14 p1 (s0 + s1) p3 (p4 + 1) s g
theorem cs_X5_perimeter_b61 (E : zE) {K4 : Nat → Int32 → Int32 → Int32 → zH → Option (Int32 × zH)} {k4 : Int32 → Int32 → Int32 → cT → zH → Option (Int32 × (cT × zH))} (hk4 : ∀ {s : cT} {g : zH} (h : iH p s g N) {p1 : Int32} {p2 : Int32} {p3 : Int32}, k4 p1 p2 p3 s g = some (r, (s9, g9)) → K4 (p.1 (N.1 + 15)) p1 p2 p3 (cH p s g) = some (r, cH p s9 g9) ∧ iH p s9 g9 N) {K14 : Nat → Int32 → Int32 → Int32 → Int32 → zH → Option (Int32 × zH)} {k14 : Int32 → Int32 → Int32 → Int32 → cT → zH → Option (Int32 × (cT × zH))} (hk14 : ∀ {s : cT} {g : zH} (h : iH p s g N) {p1 : Int32} {p2 : Int32} {p3 : Int32} {p4 : Int32}, k14 p1 p2 p3 p4 s g = some (r, (s9, g9)) → K14 (p.1 (N.1 + 15)) p1 p2 p3 p4 (cH p s g) = some (r, cH p s9 g9) ∧ iH p s9 g9 N) {s : cT} {g : zH} (h : iH p s g N) {p1 : Int32} {p3 : Int32} {p4 : Int32} {s0 : Int32} {s1 : Int32} (hf : c_X5_perimeter_b61 E N k4 k14 p1 p3 p4 s0 s1 s g = some (r, (s9, g9))) : f_X5_perimeter_b61 E K4 K14 (p.1 (N.1 + 15)) p1 p3 p4 s0 s1 (cH p s g) = some (r, cH p s9 g9) ∧ iH p s9 g9 N := by
  unfold c_X5_perimeter_b61 at hf
  unfold f_X5_perimeter_b61
  exact hk14 h hf
def c_X5_perimeter_b56 (E : zE) (N : iN) (k4 : Int32 → Int32 → Int32 → cT → zH → Option (Int32 × (cT × zH))) (k14 : Int32 → Int32 → Int32 → Int32 → cT → zH → Option (Int32 × (cT × zH))) (p1 : Int32) (p3 : Int32) (p4 : Int32) (s0 : Int32) (s : cT) (g : zH) : Option (Int32 × (cT × zH)) :=
  c_X5_perimeter_b61 E N k4 k14 p1 p3 p4 s0 (1 : Int32) s g
theorem cs_X5_perimeter_b56 (E : zE) {K4 : Nat → Int32 → Int32 → Int32 → zH → Option (Int32 × zH)} {k4 : Int32 → Int32 → Int32 → cT → zH → Option (Int32 × (cT × zH))} (hk4 : ∀ {s : cT} {g : zH} (h : iH p s g N) {p1 : Int32} {p2 : Int32} {p3 : Int32}, k4 p1 p2 p3 s g = some (r, (s9, g9)) → K4 (p.1 (N.1 + 15)) p1 p2 p3 (cH p s g) = some (r, cH p s9 g9) ∧ iH p s9 g9 N) {K14 : Nat → Int32 → Int32 → Int32 → Int32 → zH → Option (Int32 × zH)} {k14 : Int32 → Int32 → Int32 → Int32 → cT → zH → Option (Int32 × (cT × zH))} (hk14 : ∀ {s : cT} {g : zH} (h : iH p s g N) {p1 : Int32} {p2 : Int32} {p3 : Int32} {p4 : Int32}, k14 p1 p2 p3 p4 s g = some (r, (s9, g9)) → K14 (p.1 (N.1 + 15)) p1 p2 p3 p4 (cH p s g) = some (r, cH p s9 g9) ∧ iH p s9 g9 N) {s : cT} {g : zH} (h : iH p s g N) {p1 : Int32} {p3 : Int32} {p4 : Int32} {s0 : Int32} (hf : c_X5_perimeter_b56 E N k4 k14 p1 p3 p4 s0 s g = some (r, (s9, g9))) : f_X5_perimeter_b56 E K4 K14 (p.1 (N.1 + 15)) p1 p3 p4 s0 (cH p s g) = some (r, cH p s9 g9) ∧ iH p s9 g9 N := by
  unfold c_X5_perimeter_b56 at hf
  unfold f_X5_perimeter_b56
  exact cs_X5_perimeter_b61 E hk4 hk14 h hf
def c_X5_perimeter_l14 (E : zE) (N : iN) (k4 : Int32 → Int32 → Int32 → cT → zH → Option (Int32 × (cT × zH))) : Nat → Int32 → Int32 → Int32 → Int32 → cT → zH → Option (Int32 × (cT × zH))
  | 0, _, _, _, _, _, _ => none
  | n + 1, p1, p2, p3, p4, s, g =>
    if (4 : Int32) ≤ p4 then (
      c_X5_perimeter_b69 E N k4 p1 p2 p3 s g
    ) else (
      (cdI s (N.1 + 16) 900 p3).bind fun x4 =>
      if x4 = p1 then (
        bnd2 (c_X5_neighbour E N p3 p4 s g) fun x9 z557 =>
        if x9 = (-1 : Int32) then (
          c_X5_perimeter_b56 E N k4 (c_X5_perimeter_l14 E N k4 n) p1 p3 p4 p2 z557.1 z557.2
        ) else (
          (cdI z557.1 (N.1 + 16) 900 x9).bind fun x13 =>
          if x13 = p1 then (
            c_X5_perimeter_b61 E N k4 (c_X5_perimeter_l14 E N k4 n) p1 p3 p4 p2 (0 : Int32) z557.1 z557.2
          ) else (
            c_X5_perimeter_b56 E N k4 (c_X5_perimeter_l14 E N k4 n) p1 p3 p4 p2 z557.1 z557.2
          )
        )
      ) else (
        c_X5_perimeter_b69 E N k4 p1 p2 p3 s g
      )
    )
theorem cs_X5_perimeter_l14 (E : zE) {K4 : Nat → Int32 → Int32 → Int32 → zH → Option (Int32 × zH)} {k4 : Int32 → Int32 → Int32 → cT → zH → Option (Int32 × (cT × zH))} (hk4 : ∀ {s : cT} {g : zH} (h : iH p s g N) {p1 : Int32} {p2 : Int32} {p3 : Int32}, k4 p1 p2 p3 s g = some (r, (s9, g9)) → K4 (p.1 (N.1 + 15)) p1 p2 p3 (cH p s g) = some (r, cH p s9 g9) ∧ iH p s9 g9 N) : ∀ (n : Nat) {s : cT} {g : zH} (h : iH p s g N) {p1 : Int32} {p2 : Int32} {p3 : Int32} {p4 : Int32}, c_X5_perimeter_l14 E N k4 n p1 p2 p3 p4 s g = some (r, (s9, g9)) → f_X5_perimeter_l14 E K4 n (p.1 (N.1 + 15)) p1 p2 p3 p4 (cH p s g) = some (r, cH p s9 g9) ∧ iH p s9 g9 N := by
  intro n
  induction n with
  | zero =>
    intro s g h p1 p2 p3 p4 hf
    cases hf
  | succ n ih =>
    intro s g h p1 p2 p3 p4 hf
    unfold c_X5_perimeter_l14 at hf
    unfold f_X5_perimeter_l14
    by_cases c552 : (4 : Int32) ≤ p4
    · have hf := zif_t c552 hf
      refine kif_t c552 ?_
      exact cs_X5_perimeter_b69 E hk4 h hf
    · have hf := zif_f c552 hf
      refine kif_f c552 ?_
      refine kb1 (a_Gr_R0 h) ?_
      obtain ⟨x4, e553, hf⟩ := zbind hf
      obtain ⟨hj554, e553⟩ := cdI_spec e553
      refine kb1 ((a_own_d h hj554).trans (congrArg some e553)) ?_
      by_cases c555 : x4 = p1
      · have hf := zif_t c555 hf
        refine kif_t c555 ?_
        obtain ⟨x9, z557, e556, hf⟩ := zbind2 hf
        obtain ⟨e556, h⟩ := cs_X5_neighbour E h e556
        refine kbc e556 ?_
        by_cases c559 : x9 = (-1 : Int32)
        · have hf := zif_t c559 hf
          refine kif_t c559 ?_
          exact cs_X5_perimeter_b56 E hk4 ih h hf
        · have hf := zif_f c559 hf
          refine kif_f c559 ?_
          refine kb1 (a_Gr_R0 h) ?_
          obtain ⟨x13, e560, hf⟩ := zbind hf
          obtain ⟨hj561, e560⟩ := cdI_spec e560
          refine kb1 ((a_own_d h hj561).trans (congrArg some e560)) ?_
          by_cases c562 : x13 = p1
          · have hf := zif_t c562 hf
            refine kif_t c562 ?_
            exact cs_X5_perimeter_b61 E hk4 ih h hf
          · have hf := zif_f c562 hf
            refine kif_f c562 ?_
            exact cs_X5_perimeter_b56 E hk4 ih h hf
      · have hf := zif_f c555 hf
        refine kif_f c555 ?_
        exact cs_X5_perimeter_b69 E hk4 h hf
def c_X5_perimeter_l4 (E : zE) (N : iN) : Nat → Int32 → Int32 → Int32 → cT → zH → Option (Int32 × (cT × zH))
  | 0, _, _, _, _, _ => none
  | n + 1, p1, p2, p3, s, g =>
    if (900 : Int32) ≤ p3 then (
      some (p2, (s, g))
    ) else (
      c_X5_perimeter_l14 E N (c_X5_perimeter_l4 E N n) E.1 p1 p2 p3 (0 : Int32) s g
    )
theorem cs_X5_perimeter_l4 (E : zE) : ∀ (n : Nat) {s : cT} {g : zH} (h : iH p s g N) {p1 : Int32} {p2 : Int32} {p3 : Int32}, c_X5_perimeter_l4 E N n p1 p2 p3 s g = some (r, (s9, g9)) → f_X5_perimeter_l4 E n (p.1 (N.1 + 15)) p1 p2 p3 (cH p s g) = some (r, cH p s9 g9) ∧ iH p s9 g9 N := by
  intro n
  induction n with
  | zero =>
    intro s g h p1 p2 p3 hf
    cases hf
  | succ n ih =>
    intro s g h p1 p2 p3 hf
    unfold c_X5_perimeter_l4 at hf
    unfold f_X5_perimeter_l4
    by_cases c563 : (900 : Int32) ≤ p3
    · have hf := zif_t c563 hf
      refine kif_t c563 ?_
      cases hf
      exact ⟨rfl, h⟩
    · have hf := zif_f c563 hf
      refine kif_f c563 ?_
      exact cs_X5_perimeter_l14 E ih E.1 h hf
def c_X5_perimeter_b0 (E : zE) (N : iN) (p1 : Int32) (s : cT) (g : zH) : Option (Int32 × (cT × zH)) :=
  c_X5_perimeter_l4 E N E.1 p1 (0 : Int32) (0 : Int32) s g
theorem cs_X5_perimeter_b0 (E : zE) {s : cT} {g : zH} (h : iH p s g N) {p1 : Int32} (hf : c_X5_perimeter_b0 E N p1 s g = some (r, (s9, g9))) : f_X5_perimeter_b0 E (p.1 (N.1 + 15)) p1 (cH p s g) = some (r, cH p s9 g9) ∧ iH p s9 g9 N := by
  unfold c_X5_perimeter_b0 at hf
  unfold f_X5_perimeter_b0
  exact cs_X5_perimeter_l4 E E.1 h hf
def c_X5_perimeter (E : zE) (N : iN) (p1 : Int32) (s : cT) (g : zH) : Option (Int32 × (cT × zH)) :=
  c_X5_perimeter_b0 E N p1 s g
theorem cs_X5_perimeter (E : zE) {s : cT} {g : zH} (h : iH p s g N) {p1 : Int32} (hf : c_X5_perimeter E N p1 s g = some (r, (s9, g9))) : f_X5_perimeter E (p.1 (N.1 + 15)) p1 (cH p s g) = some (r, cH p s9 g9) ∧ iH p s9 g9 N := by
  unfold c_X5_perimeter at hf
  unfold f_X5_perimeter
  exact cs_X5_perimeter_b0 E h hf
end
section
variable {p : cP} {N : iN} {r : (Int32 ⊕ (Nat × Nat))} {s9 : cT} {g9 : zH}
def c_X1_perimeter_b0 (E : zE) (N : iN) (p1 : Int32) (s : cT) (g : zH) : Option ((Int32 ⊕ (Nat × Nat)) × (cT × zH)) :=
  bnd2 (nA g 3 (1 : Int32) (.inl fun _ => 0)) fun q1 g565 =>
  bnd2 (c_X1_isFranchisee E N p1 s g565) fun x7 z567 =>
  (zgd .boolean x7).bind fun _ =>
  (sI z567.2 q1 3 (0 : Int32) x7).bind fun g571 =>
  bnd2 (c_X1_requireIndex E N q1 z567.1 g571) fun x13 z573 =>
  Sum.elim (fun x14 => (
    bnd2 (c_X5_perimeter E N p1 z573.1 z573.2) fun x23 z576 =>
    some (.inl x23, (z576.1, z576.2))
  )) (fun q15 => (
    some (.inr q15, (z573.1, z573.2))
  )) x13
theorem cs_X1_perimeter_b0 (E : zE) {s : cT} {g : zH} (h : iH p s g N) {p1 : Int32} (hf : c_X1_perimeter_b0 E N p1 s g = some (r, (s9, g9))) : f_X1_perimeter_b0 E (p.1 1) p1 (cH p s g) = some (r, cH p s9 g9) ∧ iH p s9 g9 N := by
  unfold c_X1_perimeter_b0 at hf
  unfold f_X1_perimeter_b0
  obtain ⟨q1, g565, e564, hf⟩ := zbind2 hf
  have hq_q1 := hq_nA h e564
  refine kbc (k_nA h e564) ?_
  have h := iH_g h (gle_nA e564)
  refine kb1 (a_X_ck h) ?_
  obtain ⟨x7, z567, e566, hf⟩ := zbind2 hf
  obtain ⟨e566, h⟩ := cs_X1_isFranchisee E h e566
  refine kbc e566 ?_
  obtain ⟨_, e569, hf⟩ := zbind hf
  refine kb1 e569 ?_
  obtain ⟨g571, e570, hf⟩ := zbind hf
  refine kb1 ((r_sI hq_q1 _ _ _).trans (congrArg (Option.map (cH p _)) e570)) ?_
  have h := iH_g h (gle_sI e570)
  obtain ⟨x13, z573, e572, hf⟩ := zbind2 hf
  obtain ⟨e572, h⟩ := cs_X1_requireIndex E h hq_q1 e572
  refine kbc e572 ?_
  rcases x13 with x14 | q15
  · have hf := zinl hf
    refine kel0_l ?_
    refine kb1 (a_X_R1 h) ?_
    refine kb1 (a_Bk_R2 h) ?_
    refine kb1 (a_Gr_ck h) ?_
    obtain ⟨x23, z576, e575, hf⟩ := zbind2 hf
    obtain ⟨e575, h⟩ := cs_X5_perimeter E h e575
    refine kbc e575 ?_
    cases hf
    exact ⟨rfl, h⟩
  · have hf := zinr hf
    refine kel0_r ?_
    cases hf
    exact ⟨rfl, h⟩
def c_X1_perimeter (E : zE) (N : iN) (p1 : Int32) (s : cT) (g : zH) : Option ((Int32 ⊕ (Nat × Nat)) × (cT × zH)) :=
  c_X1_perimeter_b0 E N p1 s g
theorem cs_X1_perimeter (E : zE) {s : cT} {g : zH} (h : iH p s g N) {p1 : Int32} (hf : c_X1_perimeter E N p1 s g = some (r, (s9, g9))) : f_X1_perimeter E (p.1 1) p1 (cH p s g) = some (r, cH p s9 g9) ∧ iH p s9 g9 N := by
  unfold c_X1_perimeter at hf
  unfold f_X1_perimeter
  exact cs_X1_perimeter_b0 E h hf
end
section
variable {p : cP} {N : iN} {r : Int32} {s9 : cT} {g9 : zH}
def c_X5_border_b73 (E : zE) (N : iN) (k5 : Int32 → Int32 → Int32 → Int32 → cT → zH → Option (Int32 × (cT × zH))) (p1 : Int32) (p2 : Int32) (p3 : Int32) (p4 : Int32) (s : cT) (g : zH) : Option (Int32 × (cT × zH)) :=
  k5 p1 p2 p3 (p4 + 1) s g
theorem cs_X5_border_b73 (E : zE) {K5 : Nat → Int32 → Int32 → Int32 → Int32 → zH → Option (Int32 × zH)} {k5 : Int32 → Int32 → Int32 → Int32 → cT → zH → Option (Int32 × (cT × zH))} (hk5 : ∀ {s : cT} {g : zH} (h : iH p s g N) {p1 : Int32} {p2 : Int32} {p3 : Int32} {p4 : Int32}, k5 p1 p2 p3 p4 s g = some (r, (s9, g9)) → K5 (p.1 (N.1 + 15)) p1 p2 p3 p4 (cH p s g) = some (r, cH p s9 g9) ∧ iH p s9 g9 N) {s : cT} {g : zH} (h : iH p s g N) {p1 : Int32} {p2 : Int32} {p3 : Int32} {p4 : Int32} (hf : c_X5_border_b73 E N k5 p1 p2 p3 p4 s g = some (r, (s9, g9))) : f_X5_border_b73 E K5 (p.1 (N.1 + 15)) p1 p2 p3 p4 (cH p s g) = some (r, cH p s9 g9) ∧ iH p s9 g9 N := by
  unfold c_X5_border_b73 at hf
  unfold f_X5_border_b73
  exact hk5 h hf
def c_X5_border_b65 (E : zE) (N : iN) (k5 : Int32 → Int32 → Int32 → Int32 → cT → zH → Option (Int32 × (cT × zH))) (k16 : Int32 → Int32 → Int32 → Int32 → Int32 → cT → zH → Option (Int32 × (cT × zH))) (p1 : Int32) (p2 : Int32) (p4 : Int32) (p5 : Int32) (s0 : Int32) (s1 : Int32) (s : cT) (g : zH) : Option (Int32 × (cT × zH)) :=
  k16 p1 p2 (s0 + s1) p4 (p5 + 1) s g
theorem cs_X5_border_b65 (E : zE) {K5 : Nat → Int32 → Int32 → Int32 → Int32 → zH → Option (Int32 × zH)} {k5 : Int32 → Int32 → Int32 → Int32 → cT → zH → Option (Int32 × (cT × zH))} (hk5 : ∀ {s : cT} {g : zH} (h : iH p s g N) {p1 : Int32} {p2 : Int32} {p3 : Int32} {p4 : Int32}, k5 p1 p2 p3 p4 s g = some (r, (s9, g9)) → K5 (p.1 (N.1 + 15)) p1 p2 p3 p4 (cH p s g) = some (r, cH p s9 g9) ∧ iH p s9 g9 N) {K16 : Nat → Int32 → Int32 → Int32 → Int32 → Int32 → zH → Option (Int32 × zH)} {k16 : Int32 → Int32 → Int32 → Int32 → Int32 → cT → zH → Option (Int32 × (cT × zH))} (hk16 : ∀ {s : cT} {g : zH} (h : iH p s g N) {p1 : Int32} {p2 : Int32} {p3 : Int32} {p4 : Int32} {p5 : Int32}, k16 p1 p2 p3 p4 p5 s g = some (r, (s9, g9)) → K16 (p.1 (N.1 + 15)) p1 p2 p3 p4 p5 (cH p s g) = some (r, cH p s9 g9) ∧ iH p s9 g9 N) {s : cT} {g : zH} (h : iH p s g N) {p1 : Int32} {p2 : Int32} {p4 : Int32} {p5 : Int32} {s0 : Int32} {s1 : Int32} (hf : c_X5_border_b65 E N k5 k16 p1 p2 p4 p5 s0 s1 s g = some (r, (s9, g9))) : f_X5_border_b65 E K5 K16 (p.1 (N.1 + 15)) p1 p2 p4 p5 s0 s1 (cH p s g) = some (r, cH p s9 g9) ∧ iH p s9 g9 N := by
  unfold c_X5_border_b65 at hf
  unfold f_X5_border_b65
  exact hk16 h hf
def c_X5_border_b64 (E : zE) (N : iN) (k5 : Int32 → Int32 → Int32 → Int32 → cT → zH → Option (Int32 × (cT × zH))) (k16 : Int32 → Int32 → Int32 → Int32 → Int32 → cT → zH → Option (Int32 × (cT × zH))) (p1 : Int32) (p2 : Int32) (p4 : Int32) (p5 : Int32) (s0 : Int32) (s : cT) (g : zH) : Option (Int32 × (cT × zH)) :=
  c_X5_border_b65 E N k5 k16 p1 p2 p4 p5 s0 (0 : Int32) s g
theorem cs_X5_border_b64 (E : zE) {K5 : Nat → Int32 → Int32 → Int32 → Int32 → zH → Option (Int32 × zH)} {k5 : Int32 → Int32 → Int32 → Int32 → cT → zH → Option (Int32 × (cT × zH))} (hk5 : ∀ {s : cT} {g : zH} (h : iH p s g N) {p1 : Int32} {p2 : Int32} {p3 : Int32} {p4 : Int32}, k5 p1 p2 p3 p4 s g = some (r, (s9, g9)) → K5 (p.1 (N.1 + 15)) p1 p2 p3 p4 (cH p s g) = some (r, cH p s9 g9) ∧ iH p s9 g9 N) {K16 : Nat → Int32 → Int32 → Int32 → Int32 → Int32 → zH → Option (Int32 × zH)} {k16 : Int32 → Int32 → Int32 → Int32 → Int32 → cT → zH → Option (Int32 × (cT × zH))} (hk16 : ∀ {s : cT} {g : zH} (h : iH p s g N) {p1 : Int32} {p2 : Int32} {p3 : Int32} {p4 : Int32} {p5 : Int32}, k16 p1 p2 p3 p4 p5 s g = some (r, (s9, g9)) → K16 (p.1 (N.1 + 15)) p1 p2 p3 p4 p5 (cH p s g) = some (r, cH p s9 g9) ∧ iH p s9 g9 N) {s : cT} {g : zH} (h : iH p s g N) {p1 : Int32} {p2 : Int32} {p4 : Int32} {p5 : Int32} {s0 : Int32} (hf : c_X5_border_b64 E N k5 k16 p1 p2 p4 p5 s0 s g = some (r, (s9, g9))) : f_X5_border_b64 E K5 K16 (p.1 (N.1 + 15)) p1 p2 p4 p5 s0 (cH p s g) = some (r, cH p s9 g9) ∧ iH p s9 g9 N := by
  unfold c_X5_border_b64 at hf
  unfold f_X5_border_b64
  exact cs_X5_border_b65 E hk5 hk16 h hf
def c_X5_border_l16 (E : zE) (N : iN) (k5 : Int32 → Int32 → Int32 → Int32 → cT → zH → Option (Int32 × (cT × zH))) : Nat → Int32 → Int32 → Int32 → Int32 → Int32 → cT → zH → Option (Int32 × (cT × zH))
  | 0, _, _, _, _, _, _, _ => none
  | n + 1, p1, p2, p3, p4, p5, s, g =>
    if (4 : Int32) ≤ p5 then (
      c_X5_border_b73 E N k5 p1 p2 p3 p4 s g
    ) else (
      (cdI s (N.1 + 16) 900 p4).bind fun x4 =>
      if x4 = p1 then (
        bnd2 (c_X5_neighbour E N p4 p5 s g) fun x9 z583 =>
        if x9 = (-1 : Int32) then (
          c_X5_border_b64 E N k5 (c_X5_border_l16 E N k5 n) p1 p2 p4 p5 p3 z583.1 z583.2
        ) else (
          (cdI z583.1 (N.1 + 16) 900 x9).bind fun x13 =>
          if x13 = p2 then (
            c_X5_border_b65 E N k5 (c_X5_border_l16 E N k5 n) p1 p2 p4 p5 p3 (1 : Int32) z583.1 z583.2
          ) else (
            c_X5_border_b64 E N k5 (c_X5_border_l16 E N k5 n) p1 p2 p4 p5 p3 z583.1 z583.2
          )
        )
      ) else (
        c_X5_border_b73 E N k5 p1 p2 p3 p4 s g
      )
    )
theorem cs_X5_border_l16 (E : zE) {K5 : Nat → Int32 → Int32 → Int32 → Int32 → zH → Option (Int32 × zH)} {k5 : Int32 → Int32 → Int32 → Int32 → cT → zH → Option (Int32 × (cT × zH))} (hk5 : ∀ {s : cT} {g : zH} (h : iH p s g N) {p1 : Int32} {p2 : Int32} {p3 : Int32} {p4 : Int32}, k5 p1 p2 p3 p4 s g = some (r, (s9, g9)) → K5 (p.1 (N.1 + 15)) p1 p2 p3 p4 (cH p s g) = some (r, cH p s9 g9) ∧ iH p s9 g9 N) : ∀ (n : Nat) {s : cT} {g : zH} (h : iH p s g N) {p1 : Int32} {p2 : Int32} {p3 : Int32} {p4 : Int32} {p5 : Int32}, c_X5_border_l16 E N k5 n p1 p2 p3 p4 p5 s g = some (r, (s9, g9)) → f_X5_border_l16 E K5 n (p.1 (N.1 + 15)) p1 p2 p3 p4 p5 (cH p s g) = some (r, cH p s9 g9) ∧ iH p s9 g9 N := by
  intro n
  induction n with
  | zero =>
    intro s g h p1 p2 p3 p4 p5 hf
    cases hf
  | succ n ih =>
    intro s g h p1 p2 p3 p4 p5 hf
    unfold c_X5_border_l16 at hf
    unfold f_X5_border_l16
    by_cases c578 : (4 : Int32) ≤ p5
    · have hf := zif_t c578 hf
      refine kif_t c578 ?_
      exact cs_X5_border_b73 E hk5 h hf
    · have hf := zif_f c578 hf
      refine kif_f c578 ?_
      refine kb1 (a_Gr_R0 h) ?_
      obtain ⟨x4, e579, hf⟩ := zbind hf
      obtain ⟨hj580, e579⟩ := cdI_spec e579
      refine kb1 ((a_own_d h hj580).trans (congrArg some e579)) ?_
      by_cases c581 : x4 = p1
      · have hf := zif_t c581 hf
        refine kif_t c581 ?_
        obtain ⟨x9, z583, e582, hf⟩ := zbind2 hf
        obtain ⟨e582, h⟩ := cs_X5_neighbour E h e582
        refine kbc e582 ?_
        by_cases c585 : x9 = (-1 : Int32)
        · have hf := zif_t c585 hf
          refine kif_t c585 ?_
          exact cs_X5_border_b64 E hk5 ih h hf
        · have hf := zif_f c585 hf
          refine kif_f c585 ?_
          refine kb1 (a_Gr_R0 h) ?_
          obtain ⟨x13, e586, hf⟩ := zbind hf
          obtain ⟨hj587, e586⟩ := cdI_spec e586
          refine kb1 ((a_own_d h hj587).trans (congrArg some e586)) ?_
          by_cases c588 : x13 = p2
          · have hf := zif_t c588 hf
            refine kif_t c588 ?_
            exact cs_X5_border_b65 E hk5 ih h hf
          · have hf := zif_f c588 hf
            refine kif_f c588 ?_
            exact cs_X5_border_b64 E hk5 ih h hf
      · have hf := zif_f c581 hf
        refine kif_f c581 ?_
        exact cs_X5_border_b73 E hk5 h hf
def c_X5_border_l5 (E : zE) (N : iN) : Nat → Int32 → Int32 → Int32 → Int32 → cT → zH → Option (Int32 × (cT × zH))
  | 0, _, _, _, _, _, _ => none
  | n + 1, p1, p2, p3, p4, s, g =>
    if (900 : Int32) ≤ p4 then (
      some (p3, (s, g))
    ) else (
      c_X5_border_l16 E N (c_X5_border_l5 E N n) E.1 p1 p2 p3 p4 (0 : Int32) s g
    )
theorem cs_X5_border_l5 (E : zE) : ∀ (n : Nat) {s : cT} {g : zH} (h : iH p s g N) {p1 : Int32} {p2 : Int32} {p3 : Int32} {p4 : Int32}, c_X5_border_l5 E N n p1 p2 p3 p4 s g = some (r, (s9, g9)) → f_X5_border_l5 E n (p.1 (N.1 + 15)) p1 p2 p3 p4 (cH p s g) = some (r, cH p s9 g9) ∧ iH p s9 g9 N := by
  intro n
  induction n with
  | zero =>
    intro s g h p1 p2 p3 p4 hf
    cases hf
  | succ n ih =>
    intro s g h p1 p2 p3 p4 hf
    unfold c_X5_border_l5 at hf
    unfold f_X5_border_l5
    by_cases c589 : (900 : Int32) ≤ p4
    · have hf := zif_t c589 hf
      refine kif_t c589 ?_
      cases hf
      exact ⟨rfl, h⟩
    · have hf := zif_f c589 hf
      refine kif_f c589 ?_
      exact cs_X5_border_l16 E ih E.1 h hf
def c_X5_border_b0 (E : zE) (N : iN) (p1 : Int32) (p2 : Int32) (s : cT) (g : zH) : Option (Int32 × (cT × zH)) :=
  c_X5_border_l5 E N E.1 p1 p2 (0 : Int32) (0 : Int32) s g
theorem cs_X5_border_b0 (E : zE) {s : cT} {g : zH} (h : iH p s g N) {p1 : Int32} {p2 : Int32} (hf : c_X5_border_b0 E N p1 p2 s g = some (r, (s9, g9))) : f_X5_border_b0 E (p.1 (N.1 + 15)) p1 p2 (cH p s g) = some (r, cH p s9 g9) ∧ iH p s9 g9 N := by
  unfold c_X5_border_b0 at hf
  unfold f_X5_border_b0
  exact cs_X5_border_l5 E E.1 h hf
def c_X5_border (E : zE) (N : iN) (p1 : Int32) (p2 : Int32) (s : cT) (g : zH) : Option (Int32 × (cT × zH)) :=
  c_X5_border_b0 E N p1 p2 s g
theorem cs_X5_border (E : zE) {s : cT} {g : zH} (h : iH p s g N) {p1 : Int32} {p2 : Int32} (hf : c_X5_border E N p1 p2 s g = some (r, (s9, g9))) : f_X5_border E (p.1 (N.1 + 15)) p1 p2 (cH p s g) = some (r, cH p s9 g9) ∧ iH p s9 g9 N := by
  unfold c_X5_border at hf
  unfold f_X5_border
  exact cs_X5_border_b0 E h hf
end
section
variable {p : cP} {N : iN} {r : (Int32 ⊕ (Nat × Nat))} {s9 : cT} {g9 : zH}
def c_X1_border_b43 (E : zE) (N : iN) (s0 : Int32) (s : cT) (g : zH) : Option ((Int32 ⊕ (Nat × Nat)) × (cT × zH)) :=
  some (.inl s0, (s, g))
theorem cs_X1_border_b43 (E : zE) {s : cT} {g : zH} (h : iH p s g N) {s0 : Int32} (hf : c_X1_border_b43 E N s0 s g = some (r, (s9, g9))) : f_X1_border_b43 E s0 (cH p s g) = some (r, cH p s9 g9) ∧ iH p s9 g9 N := by
  unfold c_X1_border_b43 at hf
  unfold f_X1_border_b43
  cases hf
  exact ⟨rfl, h⟩
def c_X1_border_b0 (E : zE) (N : iN) (p1 : Int32) (p2 : Int32) (s : cT) (g : zH) : Option ((Int32 ⊕ (Nat × Nat)) × (cT × zH)) :=
  bnd2 (nA g 3 (2 : Int32) (.inl fun _ => 0)) fun q1 g591 =>
  bnd2 (c_X1_isFranchisee E N p1 s g591) fun x7 z593 =>
  (zgd .boolean x7).bind fun _ =>
  (sI z593.2 q1 3 (0 : Int32) x7).bind fun g597 =>
  bnd2 (c_X1_isFranchisee E N p2 z593.1 g597) fun x14 z599 =>
  (zgd .boolean x14).bind fun _ =>
  (sI z599.2 q1 3 (1 : Int32) x14).bind fun g603 =>
  bnd2 (c_X1_requireIndex E N q1 z599.1 g603) fun x20 z605 =>
  Sum.elim (fun x21 => (
    if p1 = p2 then (
      c_X1_border_b43 E N (0 : Int32) z605.1 z605.2
    ) else (
      bnd2 (c_X5_border E N p1 p2 z605.1 z605.2) fun x31 z609 =>
      c_X1_border_b43 E N x31 z609.1 z609.2
    )
  )) (fun q22 => (
    some (.inr q22, (z605.1, z605.2))
  )) x20
theorem cs_X1_border_b0 (E : zE) {s : cT} {g : zH} (h : iH p s g N) {p1 : Int32} {p2 : Int32} (hf : c_X1_border_b0 E N p1 p2 s g = some (r, (s9, g9))) : f_X1_border_b0 E (p.1 1) p1 p2 (cH p s g) = some (r, cH p s9 g9) ∧ iH p s9 g9 N := by
  unfold c_X1_border_b0 at hf
  unfold f_X1_border_b0
  obtain ⟨q1, g591, e590, hf⟩ := zbind2 hf
  have hq_q1 := hq_nA h e590
  refine kbc (k_nA h e590) ?_
  have h := iH_g h (gle_nA e590)
  refine kb1 (a_X_ck h) ?_
  obtain ⟨x7, z593, e592, hf⟩ := zbind2 hf
  obtain ⟨e592, h⟩ := cs_X1_isFranchisee E h e592
  refine kbc e592 ?_
  obtain ⟨_, e595, hf⟩ := zbind hf
  refine kb1 e595 ?_
  obtain ⟨g597, e596, hf⟩ := zbind hf
  refine kb1 ((r_sI hq_q1 _ _ _).trans (congrArg (Option.map (cH p _)) e596)) ?_
  have h := iH_g h (gle_sI e596)
  refine kb1 (a_X_ck h) ?_
  obtain ⟨x14, z599, e598, hf⟩ := zbind2 hf
  obtain ⟨e598, h⟩ := cs_X1_isFranchisee E h e598
  refine kbc e598 ?_
  obtain ⟨_, e601, hf⟩ := zbind hf
  refine kb1 e601 ?_
  obtain ⟨g603, e602, hf⟩ := zbind hf
  refine kb1 ((r_sI hq_q1 _ _ _).trans (congrArg (Option.map (cH p _)) e602)) ?_
  have h := iH_g h (gle_sI e602)
  obtain ⟨x20, z605, e604, hf⟩ := zbind2 hf
  obtain ⟨e604, h⟩ := cs_X1_requireIndex E h hq_q1 e604
  refine kbc e604 ?_
  rcases x20 with x21 | q22
  · have hf := zinl hf
    refine kel0_l ?_
    by_cases c607 : p1 = p2
    · have hf := zif_t c607 hf
      refine kif_t c607 ?_
      exact cs_X1_border_b43 E h hf
    · have hf := zif_f c607 hf
      refine kif_f c607 ?_
      refine kb1 (a_X_R1 h) ?_
      refine kb1 (a_Bk_R2 h) ?_
      refine kb1 (a_Gr_ck h) ?_
      obtain ⟨x31, z609, e608, hf⟩ := zbind2 hf
      obtain ⟨e608, h⟩ := cs_X5_border E h e608
      refine kbc e608 ?_
      exact cs_X1_border_b43 E h hf
  · have hf := zinr hf
    refine kel0_r ?_
    cases hf
    exact ⟨rfl, h⟩
def c_X1_border (E : zE) (N : iN) (p1 : Int32) (p2 : Int32) (s : cT) (g : zH) : Option ((Int32 ⊕ (Nat × Nat)) × (cT × zH)) :=
  c_X1_border_b0 E N p1 p2 s g
theorem cs_X1_border (E : zE) {s : cT} {g : zH} (h : iH p s g N) {p1 : Int32} {p2 : Int32} (hf : c_X1_border E N p1 p2 s g = some (r, (s9, g9))) : f_X1_border E (p.1 1) p1 p2 (cH p s g) = some (r, cH p s9 g9) ∧ iH p s9 g9 N := by
  unfold c_X1_border at hf
  unfold f_X1_border
  exact cs_X1_border_b0 E h hf
end
section
variable {p : cP} {N : iN} {r : Int32} {s9 : cT} {g9 : zH}
def c_X5_first_l2 (E : zE) (N : iN) : Nat → Int32 → Int32 → cT → zH → Option (Int32 × (cT × zH))
  | 0, _, _, _, _ => none
  | n + 1, p1, p2, s, g =>
    if (900 : Int32) ≤ p2 then (
      some ((-1 : Int32), (s, g))
    ) else (
      (cdI s (N.1 + 16) 900 p2).bind fun x4 =>
      if x4 = p1 then (
        some (p2, (s, g))
      ) else (
        c_X5_first_l2 E N n p1 (p2 + 1) s g
      )
    )
theorem cs_X5_first_l2 (E : zE) : ∀ (n : Nat) {s : cT} {g : zH} (h : iH p s g N) {p1 : Int32} {p2 : Int32}, c_X5_first_l2 E N n p1 p2 s g = some (r, (s9, g9)) → f_X5_first_l2 E n (p.1 (N.1 + 15)) p1 p2 (cH p s g) = some (r, cH p s9 g9) ∧ iH p s9 g9 N := by
  intro n
  induction n with
  | zero =>
    intro s g h p1 p2 hf
    cases hf
  | succ n ih =>
    intro s g h p1 p2 hf
    unfold c_X5_first_l2 at hf
    unfold f_X5_first_l2
    by_cases c611 : (900 : Int32) ≤ p2
    · have hf := zif_t c611 hf
      refine kif_t c611 ?_
      cases hf
      exact ⟨rfl, h⟩
    · have hf := zif_f c611 hf
      refine kif_f c611 ?_
      refine kb1 (a_Gr_R0 h) ?_
      obtain ⟨x4, e612, hf⟩ := zbind hf
      obtain ⟨hj613, e612⟩ := cdI_spec e612
      refine kb1 ((a_own_d h hj613).trans (congrArg some e612)) ?_
      by_cases c614 : x4 = p1
      · have hf := zif_t c614 hf
        refine kif_t c614 ?_
        cases hf
        exact ⟨rfl, h⟩
      · have hf := zif_f c614 hf
        refine kif_f c614 ?_
        exact ih h hf
def c_X5_first_b0 (E : zE) (N : iN) (p1 : Int32) (s : cT) (g : zH) : Option (Int32 × (cT × zH)) :=
  c_X5_first_l2 E N E.1 p1 (0 : Int32) s g
theorem cs_X5_first_b0 (E : zE) {s : cT} {g : zH} (h : iH p s g N) {p1 : Int32} (hf : c_X5_first_b0 E N p1 s g = some (r, (s9, g9))) : f_X5_first_b0 E (p.1 (N.1 + 15)) p1 (cH p s g) = some (r, cH p s9 g9) ∧ iH p s9 g9 N := by
  unfold c_X5_first_b0 at hf
  unfold f_X5_first_b0
  exact cs_X5_first_l2 E E.1 h hf
def c_X5_first (E : zE) (N : iN) (p1 : Int32) (s : cT) (g : zH) : Option (Int32 × (cT × zH)) :=
  c_X5_first_b0 E N p1 s g
theorem cs_X5_first (E : zE) {s : cT} {g : zH} (h : iH p s g N) {p1 : Int32} (hf : c_X5_first E N p1 s g = some (r, (s9, g9))) : f_X5_first E (p.1 (N.1 + 15)) p1 (cH p s g) = some (r, cH p s9 g9) ∧ iH p s9 g9 N := by
  unfold c_X5_first at hf
  unfold f_X5_first
  exact cs_X5_first_b0 E h hf
end
section
variable {p : cP} {N : iN} {r : Int32} {s9 : cT} {g9 : zH}
def c_X5_isConnected_b158 (E : zE) (N : iN) (s0 : Int32) (s : cT) (g : zH) : Option (Int32 × (cT × zH)) :=
  (zgd .boolean s0).bind fun _ =>
  some (s0, (s, g))
theorem cs_X5_isConnected_b158 (E : zE) {s : cT} {g : zH} (h : iH p s g N) {s0 : Int32} (hf : c_X5_isConnected_b158 E N s0 s g = some (r, (s9, g9))) : f_X5_isConnected_b158 E s0 (cH p s g) = some (r, cH p s9 g9) ∧ iH p s9 g9 N := by
  unfold c_X5_isConnected_b158 at hf
  unfold f_X5_isConnected_b158
  obtain ⟨_, e615, hf⟩ := zbind hf
  refine kb1 e615 ?_
  cases hf
  exact ⟨rfl, h⟩
def c_X5_isConnected_b132 (E : zE) (N : iN) (k54 : Int32 → Int32 → Int32 → cT → zH → Option (Int32 × (cT × zH))) (k63 : Int32 → Int32 → Int32 → Int32 → cT → zH → Option (Int32 × (cT × zH))) (p1 : Int32) (p3 : Int32) (p4 : Int32) (p5 : Int32) (s : cT) (g : zH) : Option (Int32 × (cT × zH)) :=
  k63 p1 p3 p4 (p5 + 1) s g
theorem cs_X5_isConnected_b132 (E : zE) {K54 : Nat → Int32 → Int32 → Int32 → zH → Option (Int32 × zH)} {k54 : Int32 → Int32 → Int32 → cT → zH → Option (Int32 × (cT × zH))} (hk54 : ∀ {s : cT} {g : zH} (h : iH p s g N) {p1 : Int32} {p3 : Int32} {p4 : Int32}, k54 p1 p3 p4 s g = some (r, (s9, g9)) → K54 (p.1 (N.1 + 15)) p1 p3 p4 (cH p s g) = some (r, cH p s9 g9) ∧ iH p s9 g9 N) {K63 : Nat → Int32 → Int32 → Int32 → Int32 → zH → Option (Int32 × zH)} {k63 : Int32 → Int32 → Int32 → Int32 → cT → zH → Option (Int32 × (cT × zH))} (hk63 : ∀ {s : cT} {g : zH} (h : iH p s g N) {p1 : Int32} {p3 : Int32} {p4 : Int32} {p5 : Int32}, k63 p1 p3 p4 p5 s g = some (r, (s9, g9)) → K63 (p.1 (N.1 + 15)) p1 p3 p4 p5 (cH p s g) = some (r, cH p s9 g9) ∧ iH p s9 g9 N) {s : cT} {g : zH} (h : iH p s g N) {p1 : Int32} {p3 : Int32} {p4 : Int32} {p5 : Int32} (hf : c_X5_isConnected_b132 E N k54 k63 p1 p3 p4 p5 s g = some (r, (s9, g9))) : f_X5_isConnected_b132 E K54 K63 (p.1 (N.1 + 15)) p1 p3 p4 p5 (cH p s g) = some (r, cH p s9 g9) ∧ iH p s9 g9 N := by
  unfold c_X5_isConnected_b132 at hf
  unfold f_X5_isConnected_b132
  exact hk63 h hf
def c_X5_isConnected_l63 (E : zE) (N : iN) (k54 : Int32 → Int32 → Int32 → cT → zH → Option (Int32 × (cT × zH))) : Nat → Int32 → Int32 → Int32 → Int32 → cT → zH → Option (Int32 × (cT × zH))
  | 0, _, _, _, _, _, _ => none
  | n + 1, p1, p3, p4, p5, s, g =>
    if (4 : Int32) ≤ p5 then (
      k54 p1 p3 (p4 + 1) s g
    ) else (
      (cdI s (N.1 + 17) 900 p4).bind fun x4 =>
      bnd2 (c_X5_neighbour E N x4 p5 s g) fun x8 z620 =>
      if x8 = (-1 : Int32) then (
        c_X5_isConnected_b132 E N k54 (c_X5_isConnected_l63 E N k54 n) p1 p3 p4 p5 z620.1 z620.2
      ) else (
        (cdI z620.1 (N.1 + 18) 900 x8).bind fun x12 =>
        if x12 = 0 then (
          (cdI z620.1 (N.1 + 16) 900 x8).bind fun x17 =>
          if x17 = p1 then (
            (csI z620.1 (N.1 + 18) 900 x8 (1 : Int32)).bind fun s630 =>
            (csI s630 (N.1 + 17) 900 p3 x8).bind fun s633 =>
            c_X5_isConnected_b132 E N k54 (c_X5_isConnected_l63 E N k54 n) p1 (p3 + 1) p4 p5 s633 z620.2
          ) else (
            c_X5_isConnected_b132 E N k54 (c_X5_isConnected_l63 E N k54 n) p1 p3 p4 p5 z620.1 z620.2
          )
        ) else (
          c_X5_isConnected_b132 E N k54 (c_X5_isConnected_l63 E N k54 n) p1 p3 p4 p5 z620.1 z620.2
        )
      )
    )
theorem cs_X5_isConnected_l63 (E : zE) {K54 : Nat → Int32 → Int32 → Int32 → zH → Option (Int32 × zH)} {k54 : Int32 → Int32 → Int32 → cT → zH → Option (Int32 × (cT × zH))} (hk54 : ∀ {s : cT} {g : zH} (h : iH p s g N) {p1 : Int32} {p3 : Int32} {p4 : Int32}, k54 p1 p3 p4 s g = some (r, (s9, g9)) → K54 (p.1 (N.1 + 15)) p1 p3 p4 (cH p s g) = some (r, cH p s9 g9) ∧ iH p s9 g9 N) : ∀ (n : Nat) {s : cT} {g : zH} (h : iH p s g N) {p1 : Int32} {p3 : Int32} {p4 : Int32} {p5 : Int32}, c_X5_isConnected_l63 E N k54 n p1 p3 p4 p5 s g = some (r, (s9, g9)) → f_X5_isConnected_l63 E K54 n (p.1 (N.1 + 15)) p1 p3 p4 p5 (cH p s g) = some (r, cH p s9 g9) ∧ iH p s9 g9 N := by
  intro n
  induction n with
  | zero =>
    intro s g h p1 p3 p4 p5 hf
    cases hf
  | succ n ih =>
    intro s g h p1 p3 p4 p5 hf
    unfold c_X5_isConnected_l63 at hf
    unfold f_X5_isConnected_l63
    by_cases c616 : (4 : Int32) ≤ p5
    · have hf := zif_t c616 hf
      refine kif_t c616 ?_
      exact hk54 h hf
    · have hf := zif_f c616 hf
      refine kif_f c616 ?_
      refine kb1 (a_Gr_R1 h) ?_
      obtain ⟨x4, e617, hf⟩ := zbind hf
      obtain ⟨hj618, e617⟩ := cdI_spec e617
      refine kb1 ((a_rea_d h hj618).trans (congrArg some e617)) ?_
      obtain ⟨x8, z620, e619, hf⟩ := zbind2 hf
      obtain ⟨e619, h⟩ := cs_X5_neighbour E h e619
      refine kbc e619 ?_
      by_cases c622 : x8 = (-1 : Int32)
      · have hf := zif_t c622 hf
        refine kif_t c622 ?_
        exact cs_X5_isConnected_b132 E hk54 ih h hf
      · have hf := zif_f c622 hf
        refine kif_f c622 ?_
        refine kb1 (a_Gr_R2 h) ?_
        obtain ⟨x12, e623, hf⟩ := zbind hf
        obtain ⟨hj624, e623⟩ := cdI_spec e623
        refine kb1 ((a_isr_d h hj624).trans (congrArg some e623)) ?_
        by_cases c625 : x12 = 0
        · have hf := zif_t c625 hf
          refine kif_t c625 ?_
          refine kb1 (a_Gr_R0 h) ?_
          obtain ⟨x17, e626, hf⟩ := zbind hf
          obtain ⟨hj627, e626⟩ := cdI_spec e626
          refine kb1 ((a_own_d h hj627).trans (congrArg some e626)) ?_
          by_cases c628 : x17 = p1
          · have hf := zif_t c628 hf
            refine kif_t c628 ?_
            refine kb1 (a_Gr_R2 h) ?_
            obtain ⟨s630, e629, hf⟩ := zbind hf
            obtain ⟨hj631, e629⟩ := csI_spec e629
            refine kb1 ((a_isr_s h hj631 _).trans (congrArg (fun z9 => some (cH p z9 _)) e629)) ?_
            have h := iH_uI h (d := (N.1 + 18)) (by have := h.2.2.2.2.2; exact ⟨by omega, by omega, by omega, fun _ _ => by omega⟩) (x8).toNatClampNeg (1 : Int32)
            rw [e629] at h
            refine kb1 (a_Gr_R1 h) ?_
            obtain ⟨s633, e632, hf⟩ := zbind hf
            obtain ⟨hj634, e632⟩ := csI_spec e632
            refine kb1 ((a_rea_s h hj634 _).trans (congrArg (fun z9 => some (cH p z9 _)) e632)) ?_
            have h := iH_uI h (d := (N.1 + 17)) (by have := h.2.2.2.2.2; exact ⟨by omega, by omega, by omega, fun _ _ => by omega⟩) (p3).toNatClampNeg x8
            rw [e632] at h
            exact cs_X5_isConnected_b132 E hk54 ih h hf
          · have hf := zif_f c628 hf
            refine kif_f c628 ?_
            exact cs_X5_isConnected_b132 E hk54 ih h hf
        · have hf := zif_f c625 hf
          refine kif_f c625 ?_
          exact cs_X5_isConnected_b132 E hk54 ih h hf
def c_X5_isConnected_l54 (E : zE) (N : iN) : Nat → Int32 → Int32 → Int32 → cT → zH → Option (Int32 × (cT × zH))
  | 0, _, _, _, _, _ => none
  | n + 1, p1, p3, p4, s, g =>
    if p3 ≤ p4 then (
      bnd2 (c_X5_area E N p1 s g) fun x5 z637 =>
      if p3 = x5 then (
        c_X5_isConnected_b158 E N (1 : Int32) z637.1 z637.2
      ) else (
        c_X5_isConnected_b158 E N (0 : Int32) z637.1 z637.2
      )
    ) else (
      c_X5_isConnected_l63 E N (c_X5_isConnected_l54 E N n) E.1 p1 p3 p4 (0 : Int32) s g
    )
theorem cs_X5_isConnected_l54 (E : zE) : ∀ (n : Nat) {s : cT} {g : zH} (h : iH p s g N) {p1 : Int32} {p3 : Int32} {p4 : Int32}, c_X5_isConnected_l54 E N n p1 p3 p4 s g = some (r, (s9, g9)) → f_X5_isConnected_l54 E n (p.1 (N.1 + 15)) p1 p3 p4 (cH p s g) = some (r, cH p s9 g9) ∧ iH p s9 g9 N := by
  intro n
  induction n with
  | zero =>
    intro s g h p1 p3 p4 hf
    cases hf
  | succ n ih =>
    intro s g h p1 p3 p4 hf
    unfold c_X5_isConnected_l54 at hf
    unfold f_X5_isConnected_l54
    by_cases c635 : p3 ≤ p4
    · have hf := zif_t c635 hf
      refine kif_t c635 ?_
      refine kb1 (a_Gr_ck h) ?_
      obtain ⟨x5, z637, e636, hf⟩ := zbind2 hf
      obtain ⟨e636, h⟩ := cs_X5_area E h e636
      refine kbc e636 ?_
      by_cases c639 : p3 = x5
      · have hf := zif_t c639 hf
        refine kif_t c639 ?_
        exact cs_X5_isConnected_b158 E h hf
      · have hf := zif_f c639 hf
        refine kif_f c639 ?_
        exact cs_X5_isConnected_b158 E h hf
    · have hf := zif_f c635 hf
      refine kif_f c635 ?_
      exact cs_X5_isConnected_l63 E ih E.1 h hf
def c_X5_isConnected_l15 (E : zE) (N : iN) : Nat → Int32 → Int32 → Int32 → cT → zH → Option (Int32 × (cT × zH))
  | 0, _, _, _, _, _ => none
  | n + 1, p1, p2, p3, s, g =>
    if (900 : Int32) ≤ p3 then (
      (csI s (N.1 + 17) 900 (0 : Int32) p2).bind fun s642 =>
      (csI s642 (N.1 + 18) 900 p2 (1 : Int32)).bind fun s645 =>
      c_X5_isConnected_l54 E N E.1 p1 (1 : Int32) (0 : Int32) s645 g
    ) else (
      (csI s (N.1 + 18) 900 p3 (0 : Int32)).bind fun s648 =>
      c_X5_isConnected_l15 E N n p1 p2 (p3 + 1) s648 g
    )
theorem cs_X5_isConnected_l15 (E : zE) : ∀ (n : Nat) {s : cT} {g : zH} (h : iH p s g N) {p1 : Int32} {p2 : Int32} {p3 : Int32}, c_X5_isConnected_l15 E N n p1 p2 p3 s g = some (r, (s9, g9)) → f_X5_isConnected_l15 E n (p.1 (N.1 + 15)) p1 p2 p3 (cH p s g) = some (r, cH p s9 g9) ∧ iH p s9 g9 N := by
  intro n
  induction n with
  | zero =>
    intro s g h p1 p2 p3 hf
    cases hf
  | succ n ih =>
    intro s g h p1 p2 p3 hf
    unfold c_X5_isConnected_l15 at hf
    unfold f_X5_isConnected_l15
    by_cases c640 : (900 : Int32) ≤ p3
    · have hf := zif_t c640 hf
      refine kif_t c640 ?_
      refine kb1 (a_Gr_R1 h) ?_
      obtain ⟨s642, e641, hf⟩ := zbind hf
      obtain ⟨hj643, e641⟩ := csI_spec e641
      refine kb1 ((a_rea_s h hj643 _).trans (congrArg (fun z9 => some (cH p z9 _)) e641)) ?_
      have h := iH_uI h (d := (N.1 + 17)) (by have := h.2.2.2.2.2; exact ⟨by omega, by omega, by omega, fun _ _ => by omega⟩) ((0 : Int32)).toNatClampNeg p2
      rw [e641] at h
      refine kb1 (a_Gr_R2 h) ?_
      obtain ⟨s645, e644, hf⟩ := zbind hf
      obtain ⟨hj646, e644⟩ := csI_spec e644
      refine kb1 ((a_isr_s h hj646 _).trans (congrArg (fun z9 => some (cH p z9 _)) e644)) ?_
      have h := iH_uI h (d := (N.1 + 18)) (by have := h.2.2.2.2.2; exact ⟨by omega, by omega, by omega, fun _ _ => by omega⟩) (p2).toNatClampNeg (1 : Int32)
      rw [e644] at h
      exact cs_X5_isConnected_l54 E E.1 h hf
    · have hf := zif_f c640 hf
      refine kif_f c640 ?_
      refine kb1 (a_Gr_R2 h) ?_
      obtain ⟨s648, e647, hf⟩ := zbind hf
      obtain ⟨hj649, e647⟩ := csI_spec e647
      refine kb1 ((a_isr_s h hj649 _).trans (congrArg (fun z9 => some (cH p z9 _)) e647)) ?_
      have h := iH_uI h (d := (N.1 + 18)) (by have := h.2.2.2.2.2; exact ⟨by omega, by omega, by omega, fun _ _ => by omega⟩) (p3).toNatClampNeg (0 : Int32)
      rw [e647] at h
      exact ih h hf
def c_X5_isConnected_b0 (E : zE) (N : iN) (p1 : Int32) (s : cT) (g : zH) : Option (Int32 × (cT × zH)) :=
  bnd2 (c_X5_first E N p1 s g) fun x4 z651 =>
  if x4 = (-1 : Int32) then (
    some ((0 : Int32), (z651.1, z651.2))
  ) else (
    c_X5_isConnected_l15 E N E.1 p1 x4 (0 : Int32) z651.1 z651.2
  )
theorem cs_X5_isConnected_b0 (E : zE) {s : cT} {g : zH} (h : iH p s g N) {p1 : Int32} (hf : c_X5_isConnected_b0 E N p1 s g = some (r, (s9, g9))) : f_X5_isConnected_b0 E (p.1 (N.1 + 15)) p1 (cH p s g) = some (r, cH p s9 g9) ∧ iH p s9 g9 N := by
  unfold c_X5_isConnected_b0 at hf
  unfold f_X5_isConnected_b0
  refine kb1 (a_Gr_ck h) ?_
  obtain ⟨x4, z651, e650, hf⟩ := zbind2 hf
  obtain ⟨e650, h⟩ := cs_X5_first E h e650
  refine kbc e650 ?_
  by_cases c653 : x4 = (-1 : Int32)
  · have hf := zif_t c653 hf
    refine kif_t c653 ?_
    cases hf
    exact ⟨rfl, h⟩
  · have hf := zif_f c653 hf
    refine kif_f c653 ?_
    exact cs_X5_isConnected_l15 E E.1 h hf
def c_X5_isConnected (E : zE) (N : iN) (p1 : Int32) (s : cT) (g : zH) : Option (Int32 × (cT × zH)) :=
  c_X5_isConnected_b0 E N p1 s g
theorem cs_X5_isConnected (E : zE) {s : cT} {g : zH} (h : iH p s g N) {p1 : Int32} (hf : c_X5_isConnected E N p1 s g = some (r, (s9, g9))) : f_X5_isConnected E (p.1 (N.1 + 15)) p1 (cH p s g) = some (r, cH p s9 g9) ∧ iH p s9 g9 N := by
  unfold c_X5_isConnected at hf
  unfold f_X5_isConnected
  exact cs_X5_isConnected_b0 E h hf
end
section
variable {p : cP} {N : iN} {r : (Int32 ⊕ (Nat × Nat))} {s9 : cT} {g9 : zH}
def c_X1_isConnected_b0 (E : zE) (N : iN) (p1 : Int32) (s : cT) (g : zH) : Option ((Int32 ⊕ (Nat × Nat)) × (cT × zH)) :=
  bnd2 (nA g 3 (1 : Int32) (.inl fun _ => 0)) fun q1 g655 =>
  bnd2 (c_X1_isFranchisee E N p1 s g655) fun x7 z657 =>
  (zgd .boolean x7).bind fun _ =>
  (sI z657.2 q1 3 (0 : Int32) x7).bind fun g661 =>
  bnd2 (c_X1_requireIndex E N q1 z657.1 g661) fun x13 z663 =>
  Sum.elim (fun x14 => (
    bnd2 (c_X5_isConnected E N p1 z663.1 z663.2) fun x23 z666 =>
    (zgd .boolean x23).bind fun _ =>
    some (.inl x23, (z666.1, z666.2))
  )) (fun q15 => (
    some (.inr q15, (z663.1, z663.2))
  )) x13
theorem cs_X1_isConnected_b0 (E : zE) {s : cT} {g : zH} (h : iH p s g N) {p1 : Int32} (hf : c_X1_isConnected_b0 E N p1 s g = some (r, (s9, g9))) : f_X1_isConnected_b0 E (p.1 1) p1 (cH p s g) = some (r, cH p s9 g9) ∧ iH p s9 g9 N := by
  unfold c_X1_isConnected_b0 at hf
  unfold f_X1_isConnected_b0
  obtain ⟨q1, g655, e654, hf⟩ := zbind2 hf
  have hq_q1 := hq_nA h e654
  refine kbc (k_nA h e654) ?_
  have h := iH_g h (gle_nA e654)
  refine kb1 (a_X_ck h) ?_
  obtain ⟨x7, z657, e656, hf⟩ := zbind2 hf
  obtain ⟨e656, h⟩ := cs_X1_isFranchisee E h e656
  refine kbc e656 ?_
  obtain ⟨_, e659, hf⟩ := zbind hf
  refine kb1 e659 ?_
  obtain ⟨g661, e660, hf⟩ := zbind hf
  refine kb1 ((r_sI hq_q1 _ _ _).trans (congrArg (Option.map (cH p _)) e660)) ?_
  have h := iH_g h (gle_sI e660)
  obtain ⟨x13, z663, e662, hf⟩ := zbind2 hf
  obtain ⟨e662, h⟩ := cs_X1_requireIndex E h hq_q1 e662
  refine kbc e662 ?_
  rcases x13 with x14 | q15
  · have hf := zinl hf
    refine kel0_l ?_
    refine kb1 (a_X_R1 h) ?_
    refine kb1 (a_Bk_R2 h) ?_
    refine kb1 (a_Gr_ck h) ?_
    obtain ⟨x23, z666, e665, hf⟩ := zbind2 hf
    obtain ⟨e665, h⟩ := cs_X5_isConnected E h e665
    refine kbc e665 ?_
    obtain ⟨_, e668, hf⟩ := zbind hf
    refine kb1 e668 ?_
    cases hf
    exact ⟨rfl, h⟩
  · have hf := zinr hf
    refine kel0_r ?_
    cases hf
    exact ⟨rfl, h⟩
def c_X1_isConnected (E : zE) (N : iN) (p1 : Int32) (s : cT) (g : zH) : Option ((Int32 ⊕ (Nat × Nat)) × (cT × zH)) :=
  c_X1_isConnected_b0 E N p1 s g
theorem cs_X1_isConnected (E : zE) {s : cT} {g : zH} (h : iH p s g N) {p1 : Int32} (hf : c_X1_isConnected E N p1 s g = some (r, (s9, g9))) : f_X1_isConnected E (p.1 1) p1 (cH p s g) = some (r, cH p s9 g9) ∧ iH p s9 g9 N := by
  unfold c_X1_isConnected at hf
  unfold f_X1_isConnected
  exact cs_X1_isConnected_b0 E h hf
end
section
variable {p : cP} {N : iN} {r : Int32} {s9 : cT} {g9 : zH}
def c_J12_abs_b10 (E : zE) (N : iN) (s0 : Int32) (s : cT) (g : zH) : Option (Int32 × (cT × zH)) :=
  some (s0, (s, g))
theorem cs_J12_abs_b10 (E : zE) {s : cT} {g : zH} (h : iH p s g N) {s0 : Int32} (hf : c_J12_abs_b10 E N s0 s g = some (r, (s9, g9))) : f_J12_abs_b10 E s0 (cH p s g) = some (r, cH p s9 g9) ∧ iH p s9 g9 N := by
  unfold c_J12_abs_b10 at hf
  unfold f_J12_abs_b10
  cases hf
  exact ⟨rfl, h⟩
def c_J12_abs_b0 (E : zE) (N : iN) (p0 : Int32) (s : cT) (g : zH) : Option (Int32 × (cT × zH)) :=
  if 0 ≤ p0 then (
    c_J12_abs_b10 E N p0 s g
  ) else (
    c_J12_abs_b10 E N (-p0) s g
  )
theorem cs_J12_abs_b0 (E : zE) {s : cT} {g : zH} (h : iH p s g N) {p0 : Int32} (hf : c_J12_abs_b0 E N p0 s g = some (r, (s9, g9))) : f_J12_abs_b0 E p0 (cH p s g) = some (r, cH p s9 g9) ∧ iH p s9 g9 N := by
  unfold c_J12_abs_b0 at hf
  unfold f_J12_abs_b0
  by_cases c669 : 0 ≤ p0
  · have hf := zif_t c669 hf
    refine kif_t c669 ?_
    exact cs_J12_abs_b10 E h hf
  · have hf := zif_f c669 hf
    refine kif_f c669 ?_
    exact cs_J12_abs_b10 E h hf
def c_J12_abs (E : zE) (N : iN) (p0 : Int32) (s : cT) (g : zH) : Option (Int32 × (cT × zH)) :=
  c_J12_abs_b0 E N p0 s g
theorem cs_J12_abs (E : zE) {s : cT} {g : zH} (h : iH p s g N) {p0 : Int32} (hf : c_J12_abs E N p0 s g = some (r, (s9, g9))) : f_J12_abs E p0 (cH p s g) = some (r, cH p s9 g9) ∧ iH p s9 g9 N := by
  unfold c_J12_abs at hf
  unfold f_J12_abs
  exact cs_J12_abs_b0 E h hf
end
section
variable {p : cP} {N : iN} {r : Int32} {s9 : cT} {g9 : zH}
def c_X1_distance_2_b0 (E : zE) (N : iN) (p0 : Int32) (p1 : Int32) (s : cT) (g : zH) : Option (Int32 × (cT × zH)) :=
  bnd2 (c_X1_column E N p0 s g) fun x3 z671 =>
  bnd2 (c_X1_column E N p1 z671.1 z671.2) fun x6 z674 =>
  bnd2 (c_J12_abs E N (x3 - x6) z674.1 z674.2) fun x9 z677 =>
  bnd2 (c_X1_row E N p0 z677.1 z677.2) fun x12 z680 =>
  bnd2 (c_X1_row E N p1 z680.1 z680.2) fun x15 z683 =>
  bnd2 (c_J12_abs E N (x12 - x15) z683.1 z683.2) fun x18 z686 =>
  some ((x9 + x18), (z686.1, z686.2))
theorem cs_X1_distance_2_b0 (E : zE) {s : cT} {g : zH} (h : iH p s g N) {p0 : Int32} {p1 : Int32} (hf : c_X1_distance_2_b0 E N p0 p1 s g = some (r, (s9, g9))) : f_X1_distance_2_b0 E p0 p1 (cH p s g) = some (r, cH p s9 g9) ∧ iH p s9 g9 N := by
  unfold c_X1_distance_2_b0 at hf
  unfold f_X1_distance_2_b0
  obtain ⟨x3, z671, e670, hf⟩ := zbind2 hf
  obtain ⟨e670, h⟩ := cs_X1_column E h e670
  refine kbc e670 ?_
  obtain ⟨x6, z674, e673, hf⟩ := zbind2 hf
  obtain ⟨e673, h⟩ := cs_X1_column E h e673
  refine kbc e673 ?_
  obtain ⟨x9, z677, e676, hf⟩ := zbind2 hf
  obtain ⟨e676, h⟩ := cs_J12_abs E h e676
  refine kbc e676 ?_
  obtain ⟨x12, z680, e679, hf⟩ := zbind2 hf
  obtain ⟨e679, h⟩ := cs_X1_row E h e679
  refine kbc e679 ?_
  obtain ⟨x15, z683, e682, hf⟩ := zbind2 hf
  obtain ⟨e682, h⟩ := cs_X1_row E h e682
  refine kbc e682 ?_
  obtain ⟨x18, z686, e685, hf⟩ := zbind2 hf
  obtain ⟨e685, h⟩ := cs_J12_abs E h e685
  refine kbc e685 ?_
  cases hf
  exact ⟨rfl, h⟩
def c_X1_distance_2 (E : zE) (N : iN) (p0 : Int32) (p1 : Int32) (s : cT) (g : zH) : Option (Int32 × (cT × zH)) :=
  c_X1_distance_2_b0 E N p0 p1 s g
theorem cs_X1_distance_2 (E : zE) {s : cT} {g : zH} (h : iH p s g N) {p0 : Int32} {p1 : Int32} (hf : c_X1_distance_2 E N p0 p1 s g = some (r, (s9, g9))) : f_X1_distance_2 E p0 p1 (cH p s g) = some (r, cH p s9 g9) ∧ iH p s9 g9 N := by
  unfold c_X1_distance_2 at hf
  unfold f_X1_distance_2
  exact cs_X1_distance_2_b0 E h hf
end
section
variable {p : cP} {N : iN} {r : Int32} {s9 : cT} {g9 : zH}
def c_X5_distanceTo_b55 (E : zE) (N : iN) (s0 : Int32) (s : cT) (g : zH) : Option (Int32 × (cT × zH)) :=
  some (s0, (s, g))
theorem cs_X5_distanceTo_b55 (E : zE) {s : cT} {g : zH} (h : iH p s g N) {s0 : Int32} (hf : c_X5_distanceTo_b55 E N s0 s g = some (r, (s9, g9))) : f_X5_distanceTo_b55 E s0 (cH p s g) = some (r, cH p s9 g9) ∧ iH p s9 g9 N := by
  unfold c_X5_distanceTo_b55 at hf
  unfold f_X5_distanceTo_b55
  cases hf
  exact ⟨rfl, h⟩
def c_X5_distanceTo_b37 (E : zE) (N : iN) (k7 : Int32 → Int32 → Int32 → Int32 → cT → zH → Option (Int32 × (cT × zH))) (p1 : Int32) (p2 : Int32) (p3 : Int32) (p4 : Int32) (s : cT) (g : zH) : Option (Int32 × (cT × zH)) :=
  k7 p1 p2 p3 (p4 + 1) s g
theorem cs_X5_distanceTo_b37 (E : zE) {K7 : Nat → Int32 → Int32 → Int32 → Int32 → zH → Option (Int32 × zH)} {k7 : Int32 → Int32 → Int32 → Int32 → cT → zH → Option (Int32 × (cT × zH))} (hk7 : ∀ {s : cT} {g : zH} (h : iH p s g N) {p1 : Int32} {p2 : Int32} {p3 : Int32} {p4 : Int32}, k7 p1 p2 p3 p4 s g = some (r, (s9, g9)) → K7 (p.1 (N.1 + 15)) p1 p2 p3 p4 (cH p s g) = some (r, cH p s9 g9) ∧ iH p s9 g9 N) {s : cT} {g : zH} (h : iH p s g N) {p1 : Int32} {p2 : Int32} {p3 : Int32} {p4 : Int32} (hf : c_X5_distanceTo_b37 E N k7 p1 p2 p3 p4 s g = some (r, (s9, g9))) : f_X5_distanceTo_b37 E K7 (p.1 (N.1 + 15)) p1 p2 p3 p4 (cH p s g) = some (r, cH p s9 g9) ∧ iH p s9 g9 N := by
  unfold c_X5_distanceTo_b37 at hf
  unfold f_X5_distanceTo_b37
  exact hk7 h hf
def c_X5_distanceTo_l7 (E : zE) (N : iN) : Nat → Int32 → Int32 → Int32 → Int32 → cT → zH → Option (Int32 × (cT × zH))
  | 0, _, _, _, _, _, _ => none
  | n + 1, p1, p2, p3, p4, s, g =>
    if (900 : Int32) ≤ p4 then (
      if p3 = (1000 : Int32) then (
        c_X5_distanceTo_b55 E N (-1 : Int32) s g
      ) else (
        c_X5_distanceTo_b55 E N p3 s g
      )
    ) else (
      (cdI s (N.1 + 16) 900 p4).bind fun x5 =>
      if x5 = p1 then (
        bnd2 (c_X1_distance_2 E N p4 p2 s g) fun x10 z694 =>
        bnd2 (c_J12_min E N p3 x10 z694.1 z694.2) fun x13 z697 =>
        c_X5_distanceTo_b37 E N (c_X5_distanceTo_l7 E N n) p1 p2 x13 p4 z697.1 z697.2
      ) else (
        c_X5_distanceTo_b37 E N (c_X5_distanceTo_l7 E N n) p1 p2 p3 p4 s g
      )
    )
theorem cs_X5_distanceTo_l7 (E : zE) : ∀ (n : Nat) {s : cT} {g : zH} (h : iH p s g N) {p1 : Int32} {p2 : Int32} {p3 : Int32} {p4 : Int32}, c_X5_distanceTo_l7 E N n p1 p2 p3 p4 s g = some (r, (s9, g9)) → f_X5_distanceTo_l7 E n (p.1 (N.1 + 15)) p1 p2 p3 p4 (cH p s g) = some (r, cH p s9 g9) ∧ iH p s9 g9 N := by
  intro n
  induction n with
  | zero =>
    intro s g h p1 p2 p3 p4 hf
    cases hf
  | succ n ih =>
    intro s g h p1 p2 p3 p4 hf
    unfold c_X5_distanceTo_l7 at hf
    unfold f_X5_distanceTo_l7
    by_cases c688 : (900 : Int32) ≤ p4
    · have hf := zif_t c688 hf
      refine kif_t c688 ?_
      by_cases c689 : p3 = (1000 : Int32)
      · have hf := zif_t c689 hf
        refine kif_t c689 ?_
        exact cs_X5_distanceTo_b55 E h hf
      · have hf := zif_f c689 hf
        refine kif_f c689 ?_
        exact cs_X5_distanceTo_b55 E h hf
    · have hf := zif_f c688 hf
      refine kif_f c688 ?_
      refine kb1 (a_Gr_R0 h) ?_
      obtain ⟨x5, e690, hf⟩ := zbind hf
      obtain ⟨hj691, e690⟩ := cdI_spec e690
      refine kb1 ((a_own_d h hj691).trans (congrArg some e690)) ?_
      by_cases c692 : x5 = p1
      · have hf := zif_t c692 hf
        refine kif_t c692 ?_
        obtain ⟨x10, z694, e693, hf⟩ := zbind2 hf
        obtain ⟨e693, h⟩ := cs_X1_distance_2 E h e693
        refine kbc e693 ?_
        obtain ⟨x13, z697, e696, hf⟩ := zbind2 hf
        obtain ⟨e696, h⟩ := cs_J12_min E h e696
        refine kbc e696 ?_
        exact cs_X5_distanceTo_b37 E ih h hf
      · have hf := zif_f c692 hf
        refine kif_f c692 ?_
        exact cs_X5_distanceTo_b37 E ih h hf
def c_X5_distanceTo_b0 (E : zE) (N : iN) (p1 : Int32) (p2 : Int32) (s : cT) (g : zH) : Option (Int32 × (cT × zH)) :=
  c_X5_distanceTo_l7 E N E.1 p1 p2 (1000 : Int32) (0 : Int32) s g
theorem cs_X5_distanceTo_b0 (E : zE) {s : cT} {g : zH} (h : iH p s g N) {p1 : Int32} {p2 : Int32} (hf : c_X5_distanceTo_b0 E N p1 p2 s g = some (r, (s9, g9))) : f_X5_distanceTo_b0 E (p.1 (N.1 + 15)) p1 p2 (cH p s g) = some (r, cH p s9 g9) ∧ iH p s9 g9 N := by
  unfold c_X5_distanceTo_b0 at hf
  unfold f_X5_distanceTo_b0
  exact cs_X5_distanceTo_l7 E E.1 h hf
def c_X5_distanceTo (E : zE) (N : iN) (p1 : Int32) (p2 : Int32) (s : cT) (g : zH) : Option (Int32 × (cT × zH)) :=
  c_X5_distanceTo_b0 E N p1 p2 s g
theorem cs_X5_distanceTo (E : zE) {s : cT} {g : zH} (h : iH p s g N) {p1 : Int32} {p2 : Int32} (hf : c_X5_distanceTo E N p1 p2 s g = some (r, (s9, g9))) : f_X5_distanceTo E (p.1 (N.1 + 15)) p1 p2 (cH p s g) = some (r, cH p s9 g9) ∧ iH p s9 g9 N := by
  unfold c_X5_distanceTo at hf
  unfold f_X5_distanceTo
  exact cs_X5_distanceTo_b0 E h hf
end
section
variable {p : cP} {N : iN} {r : (Int32 ⊕ (Nat × Nat))} {s9 : cT} {g9 : zH}
def c_X1_distance_b0 (E : zE) (N : iN) (p1 : Int32) (p2 : Int32) (p3 : Int32) (s : cT) (g : zH) : Option ((Int32 ⊕ (Nat × Nat)) × (cT × zH)) :=
  bnd2 (nA g 3 (1 : Int32) (.inl fun _ => 0)) fun q1 g700 =>
  bnd2 (c_X1_isFranchisee E N p1 s g700) fun x7 z702 =>
  (zgd .boolean x7).bind fun _ =>
  (sI z702.2 q1 3 (0 : Int32) x7).bind fun g706 =>
  bnd2 (c_X1_requireIndex E N q1 z702.1 g706) fun x13 z708 =>
  Sum.elim (fun x14 => (
    bnd2 (nA z708.2 3 (1 : Int32) (.inl fun _ => 0)) fun q16 g711 =>
    bnd2 (c_X1_isPlace E N p2 p3 z708.1 g711) fun x21 z713 =>
    (zgd .boolean x21).bind fun _ =>
    (sI z713.2 q16 3 (0 : Int32) x21).bind fun g717 =>
    bnd2 (c_X1_requireArguments E N q16 z713.1 g717) fun x27 z719 =>
    Sum.elim (fun x28 => (
      bnd2 (c_X1_cell E N p2 p3 z719.1 z719.2) fun x36 z722 =>
      bnd2 (c_X5_distanceTo E N p1 x36 z722.1 z722.2) fun x40 z725 =>
      some (.inl x40, (z725.1, z725.2))
    )) (fun q29 => (
      some (.inr q29, (z719.1, z719.2))
    )) x27
  )) (fun q15 => (
    some (.inr q15, (z708.1, z708.2))
  )) x13
theorem cs_X1_distance_b0 (E : zE) {s : cT} {g : zH} (h : iH p s g N) {p1 : Int32} {p2 : Int32} {p3 : Int32} (hf : c_X1_distance_b0 E N p1 p2 p3 s g = some (r, (s9, g9))) : f_X1_distance_b0 E (p.1 1) p1 p2 p3 (cH p s g) = some (r, cH p s9 g9) ∧ iH p s9 g9 N := by
  unfold c_X1_distance_b0 at hf
  unfold f_X1_distance_b0
  obtain ⟨q1, g700, e699, hf⟩ := zbind2 hf
  have hq_q1 := hq_nA h e699
  refine kbc (k_nA h e699) ?_
  have h := iH_g h (gle_nA e699)
  refine kb1 (a_X_ck h) ?_
  obtain ⟨x7, z702, e701, hf⟩ := zbind2 hf
  obtain ⟨e701, h⟩ := cs_X1_isFranchisee E h e701
  refine kbc e701 ?_
  obtain ⟨_, e704, hf⟩ := zbind hf
  refine kb1 e704 ?_
  obtain ⟨g706, e705, hf⟩ := zbind hf
  refine kb1 ((r_sI hq_q1 _ _ _).trans (congrArg (Option.map (cH p _)) e705)) ?_
  have h := iH_g h (gle_sI e705)
  obtain ⟨x13, z708, e707, hf⟩ := zbind2 hf
  obtain ⟨e707, h⟩ := cs_X1_requireIndex E h hq_q1 e707
  refine kbc e707 ?_
  rcases x13 with x14 | q15
  · have hf := zinl hf
    refine kel0_l ?_
    obtain ⟨q16, g711, e710, hf⟩ := zbind2 hf
    have hq_q16 := hq_nA h e710
    refine kbc (k_nA h e710) ?_
    have h := iH_g h (gle_nA e710)
    obtain ⟨x21, z713, e712, hf⟩ := zbind2 hf
    obtain ⟨e712, h⟩ := cs_X1_isPlace E h e712
    refine kbc e712 ?_
    obtain ⟨_, e715, hf⟩ := zbind hf
    refine kb1 e715 ?_
    obtain ⟨g717, e716, hf⟩ := zbind hf
    refine kb1 ((r_sI hq_q16 _ _ _).trans (congrArg (Option.map (cH p _)) e716)) ?_
    have h := iH_g h (gle_sI e716)
    obtain ⟨x27, z719, e718, hf⟩ := zbind2 hf
    obtain ⟨e718, h⟩ := cs_X1_requireArguments E h hq_q16 e718
    refine kbc e718 ?_
    rcases x27 with x28 | q29
    · have hf := zinl hf
      refine kel0_l ?_
      refine kb1 (a_X_R1 h) ?_
      refine kb1 (a_Bk_R2 h) ?_
      obtain ⟨x36, z722, e721, hf⟩ := zbind2 hf
      obtain ⟨e721, h⟩ := cs_X1_cell E h e721
      refine kbc e721 ?_
      refine kb1 (a_Gr_ck h) ?_
      obtain ⟨x40, z725, e724, hf⟩ := zbind2 hf
      obtain ⟨e724, h⟩ := cs_X5_distanceTo E h e724
      refine kbc e724 ?_
      cases hf
      exact ⟨rfl, h⟩
    · have hf := zinr hf
      refine kel0_r ?_
      cases hf
      exact ⟨rfl, h⟩
  · have hf := zinr hf
    refine kel0_r ?_
    cases hf
    exact ⟨rfl, h⟩
def c_X1_distance (E : zE) (N : iN) (p1 : Int32) (p2 : Int32) (p3 : Int32) (s : cT) (g : zH) : Option ((Int32 ⊕ (Nat × Nat)) × (cT × zH)) :=
  c_X1_distance_b0 E N p1 p2 p3 s g
theorem cs_X1_distance (E : zE) {s : cT} {g : zH} (h : iH p s g N) {p1 : Int32} {p2 : Int32} {p3 : Int32} (hf : c_X1_distance E N p1 p2 p3 s g = some (r, (s9, g9))) : f_X1_distance E (p.1 1) p1 p2 p3 (cH p s g) = some (r, cH p s9 g9) ∧ iH p s9 g9 N := by
  unfold c_X1_distance at hf
  unfold f_X1_distance
  exact cs_X1_distance_b0 E h hf
end
section
variable {p : cP} {N : iN} {r : Int32} {s9 : cT} {g9 : zH}
def c_X1_moveCells_b72 (E : zE) (N : iN) (k18 : Int32 → Int32 → Nat → Int32 → Int32 → cT → zH → Option (Int32 × (cT × zH))) (p1 : Int32) (p2 : Int32) (p3 : Nat) (p5 : Int32) (p6 : Int32) (s : cT) (g : zH) : Option (Int32 × (cT × zH)) :=
  k18 p1 p2 p3 p5 (p6 + 1) s g
theorem cs_X1_moveCells_b72 (E : zE) {K18 : Nat → Int32 → Int32 → Nat → Nat → Int32 → Int32 → zH → Option (Int32 × zH)} {k18 : Int32 → Int32 → Nat → Int32 → Int32 → cT → zH → Option (Int32 × (cT × zH))} (hk18 : ∀ {s : cT} {g : zH} (h : iH p s g N) {p1 : Int32} {p2 : Int32} {p3 : Nat} {p5 : Int32} {p6 : Int32} (hq_p3 : p.2 p3 = none), k18 p1 p2 p3 p5 p6 s g = some (r, (s9, g9)) → K18 (p.1 1) p1 p2 p3 (p.1 (N.1 + 16)) p5 p6 (cH p s g) = some (r, cH p s9 g9) ∧ iH p s9 g9 N) {s : cT} {g : zH} (h : iH p s g N) {p1 : Int32} {p2 : Int32} {p3 : Nat} {p5 : Int32} {p6 : Int32} (hq_p3 : p.2 p3 = none) (hf : c_X1_moveCells_b72 E N k18 p1 p2 p3 p5 p6 s g = some (r, (s9, g9))) : f_X1_moveCells_b72 E K18 (p.1 1) p1 p2 p3 (p.1 (N.1 + 16)) p5 p6 (cH p s g) = some (r, cH p s9 g9) ∧ iH p s9 g9 N := by
  unfold c_X1_moveCells_b72 at hf
  unfold f_X1_moveCells_b72
  exact hk18 h hq_p3 hf
def c_X1_moveCells_l18 (E : zE) (N : iN) : Nat → Int32 → Int32 → Nat → Int32 → Int32 → cT → zH → Option (Int32 × (cT × zH))
  | 0, _, _, _, _, _, _, _ => none
  | n + 1, p1, p2, p3, p5, p6, s, g =>
    if (900 : Int32) ≤ p6 then (
      some (p5, (s, g))
    ) else (
      (cdI s (N.1 + 16) 900 p6).bind fun x2 =>
      if x2 = p1 then (
        (cko g p3 12).bind fun _ =>
        bnd2 (c_X13_contains E N p3 p6 s g) fun x8 z733 =>
        if x8 = 0 then (
          c_X1_moveCells_b72 E N (c_X1_moveCells_l18 E N n) p1 p2 p3 p5 p6 z733.1 z733.2
        ) else (
          bnd2 (c_X4_hasOutlet E N p6 z733.1 z733.2) fun x15 z737 =>
          if x15 = 0 then (
            (csI z737.1 (N.1 + 16) 900 p6 ((p2.toInt8.toInt32).toInt8.toInt32)).bind fun s741 =>
            c_X1_moveCells_b72 E N (c_X1_moveCells_l18 E N n) p1 p2 p3 (p5 + 1) p6 s741 z737.2
          ) else (
            some ((-2 : Int32), (z737.1, z737.2))
          )
        )
      ) else (
        c_X1_moveCells_b72 E N (c_X1_moveCells_l18 E N n) p1 p2 p3 p5 p6 s g
      )
    )
theorem cs_X1_moveCells_l18 (E : zE) : ∀ (n : Nat) {s : cT} {g : zH} (h : iH p s g N) {p1 : Int32} {p2 : Int32} {p3 : Nat} {p5 : Int32} {p6 : Int32} (hq_p3 : p.2 p3 = none), c_X1_moveCells_l18 E N n p1 p2 p3 p5 p6 s g = some (r, (s9, g9)) → f_X1_moveCells_l18 E n (p.1 1) p1 p2 p3 (p.1 (N.1 + 16)) p5 p6 (cH p s g) = some (r, cH p s9 g9) ∧ iH p s9 g9 N := by
  intro n
  induction n with
  | zero =>
    intro s g h p1 p2 p3 p5 p6 hq_p3 hf
    cases hf
  | succ n ih =>
    intro s g h p1 p2 p3 p5 p6 hq_p3 hf
    unfold c_X1_moveCells_l18 at hf
    unfold f_X1_moveCells_l18
    by_cases c727 : (900 : Int32) ≤ p6
    · have hf := zif_t c727 hf
      refine kif_t c727 ?_
      cases hf
      exact ⟨rfl, h⟩
    · have hf := zif_f c727 hf
      refine kif_f c727 ?_
      obtain ⟨x2, e728, hf⟩ := zbind hf
      obtain ⟨hj729, e728⟩ := cdI_spec e728
      refine kb1 ((a_own_d h hj729).trans (congrArg some e728)) ?_
      by_cases c730 : x2 = p1
      · have hf := zif_t c730 hf
        refine kif_t c730 ?_
        obtain ⟨_, e731, hf⟩ := zbind hf
        refine kb1 ((r_cko hq_p3 _).trans e731) ?_
        obtain ⟨x8, z733, e732, hf⟩ := zbind2 hf
        obtain ⟨e732, h⟩ := cs_X13_contains E h hq_p3 e732
        refine kbc e732 ?_
        by_cases c735 : x8 = 0
        · have hf := zif_t c735 hf
          refine kif_t c735 ?_
          exact cs_X1_moveCells_b72 E ih h hq_p3 hf
        · have hf := zif_f c735 hf
          refine kif_f c735 ?_
          refine kb1 (a_X_R1 h) ?_
          refine kb1 (a_Bk_ck h) ?_
          obtain ⟨x15, z737, e736, hf⟩ := zbind2 hf
          obtain ⟨e736, h⟩ := cs_X4_hasOutlet E h e736
          refine kbc e736 ?_
          by_cases c739 : x15 = 0
          · have hf := zif_t c739 hf
            refine kif_t c739 ?_
            obtain ⟨s741, e740, hf⟩ := zbind hf
            obtain ⟨hj742, e740⟩ := csI_spec e740
            refine kb1 ((a_own_s h hj742 _).trans (congrArg (fun z9 => some (cH p z9 _)) e740)) ?_
            have h := iH_uI h (d := (N.1 + 16)) (by have := h.2.2.2.2.2; exact ⟨by omega, by omega, by omega, fun _ _ => by omega⟩) (p6).toNatClampNeg ((p2.toInt8.toInt32).toInt8.toInt32)
            rw [e740] at h
            exact cs_X1_moveCells_b72 E ih h hq_p3 hf
          · have hf := zif_f c739 hf
            refine kif_f c739 ?_
            cases hf
            exact ⟨rfl, h⟩
      · have hf := zif_f c730 hf
        refine kif_f c730 ?_
        exact cs_X1_moveCells_b72 E ih h hq_p3 hf
def c_X1_moveCells_b0 (E : zE) (N : iN) (p1 : Int32) (p2 : Int32) (p3 : Nat) (s : cT) (g : zH) : Option (Int32 × (cT × zH)) :=
  c_X1_moveCells_l18 E N E.1 p1 p2 p3 (0 : Int32) (0 : Int32) s g
theorem cs_X1_moveCells_b0 (E : zE) {s : cT} {g : zH} (h : iH p s g N) {p1 : Int32} {p2 : Int32} {p3 : Nat} (hq_p3 : p.2 p3 = none) (hf : c_X1_moveCells_b0 E N p1 p2 p3 s g = some (r, (s9, g9))) : f_X1_moveCells_b0 E (p.1 1) p1 p2 p3 (cH p s g) = some (r, cH p s9 g9) ∧ iH p s9 g9 N := by
  unfold c_X1_moveCells_b0 at hf
  unfold f_X1_moveCells_b0
  refine kb1 (a_X_R1 h) ?_
  refine kb1 (a_Bk_R2 h) ?_
  refine kb1 (a_Gr_R0 h) ?_
  exact cs_X1_moveCells_l18 E E.1 h hq_p3 hf
def c_X1_moveCells (E : zE) (N : iN) (p1 : Int32) (p2 : Int32) (p3 : Nat) (s : cT) (g : zH) : Option (Int32 × (cT × zH)) :=
  c_X1_moveCells_b0 E N p1 p2 p3 s g
theorem cs_X1_moveCells (E : zE) {s : cT} {g : zH} (h : iH p s g N) {p1 : Int32} {p2 : Int32} {p3 : Nat} (hq_p3 : p.2 p3 = none) (hf : c_X1_moveCells E N p1 p2 p3 s g = some (r, (s9, g9))) : f_X1_moveCells E (p.1 1) p1 p2 p3 (cH p s g) = some (r, cH p s9 g9) ∧ iH p s9 g9 N := by
  unfold c_X1_moveCells at hf
  unfold f_X1_moveCells
  exact cs_X1_moveCells_b0 E h hq_p3 hf
end
section
variable {p : cP} {N : iN} {r : (Int32 ⊕ (Nat × Nat))} {s9 : cT} {g9 : zH}
def c_X1_cede_b91 (E : zE) (N : iN) (s : cT) (g : zH) : Option ((Int32 ⊕ (Nat × Nat)) × (cT × zH)) :=
  some (.inl (-2 : Int32), (s, g))
theorem cs_X1_cede_b91 (E : zE) {s : cT} {g : zH} (h : iH p s g N) (hf : c_X1_cede_b91 E N  s g = some (r, (s9, g9))) : f_X1_cede_b91 E  (cH p s g) = some (r, cH p s9 g9) ∧ iH p s9 g9 N := by
  unfold c_X1_cede_b91 at hf
  unfold f_X1_cede_b91
  cases hf
  exact ⟨rfl, h⟩
def c_X1_cede_b202 (E : zE) (N : iN) (p9 : Int32) (s : cT) (g : zH) : Option ((Int32 ⊕ (Nat × Nat)) × (cT × zH)) :=
  some (.inl p9, (s, g))
theorem cs_X1_cede_b202 (E : zE) {s : cT} {g : zH} (h : iH p s g N) {p9 : Int32} (hf : c_X1_cede_b202 E N p9 s g = some (r, (s9, g9))) : f_X1_cede_b202 E p9 (cH p s g) = some (r, cH p s9 g9) ∧ iH p s9 g9 N := by
  unfold c_X1_cede_b202 at hf
  unfold f_X1_cede_b202
  cases hf
  exact ⟨rfl, h⟩
def c_X1_cede_b175 (E : zE) (N : iN) (p9 : Int32) (s : cT) (g : zH) : Option ((Int32 ⊕ (Nat × Nat)) × (cT × zH)) :=
  if 0 ≤ p9 then (
    c_X1_cede_b202 E N p9 s g
  ) else (
    (ccpI s 22 900 (N.1 + 16) 900 (0 : Int32) (0 : Int32) (900 : Int32)).bind fun s745 =>
    c_X1_cede_b202 E N p9 s745 g
  )
theorem cs_X1_cede_b175 (E : zE) {s : cT} {g : zH} (h : iH p s g N) {p9 : Int32} (hf : c_X1_cede_b175 E N p9 s g = some (r, (s9, g9))) : f_X1_cede_b175 E (p.1 1) p9 (cH p s g) = some (r, cH p s9 g9) ∧ iH p s9 g9 N := by
  unfold c_X1_cede_b175 at hf
  unfold f_X1_cede_b175
  by_cases c743 : 0 ≤ p9
  · have hf := zif_t c743 hf
    refine kif_t c743 ?_
    exact cs_X1_cede_b202 E h hf
  · have hf := zif_f c743 hf
    refine kif_f c743 ?_
    refine kb1 (a_X_R3 h) ?_
    refine kb1 (a_X_R1 h) ?_
    refine kb1 (a_Bk_R2 h) ?_
    refine kb1 (a_Gr_R0 h) ?_
    obtain ⟨s745, e744, hf⟩ := zbind hf
    refine kb1 (c_cpI h.1 (t := 2) (a_bef_sh h) (a_own_sh h) (Or.inr (Or.inl rfl)) e744) ?_
    obtain ⟨-, rfl⟩ := z_ite e744
    have h := iH_uA h (d := (N.1 + 16)) (by have := h.2.2.2.2.2; exact ⟨by omega, by omega, by omega, fun _ _ => by omega⟩) (va_cpy (s.2.1 22) (s.2.1 (N.1 + 16)) ((0 : Int32)).toNatClampNeg ((0 : Int32)).toNatClampNeg ((900 : Int32)).toNatClampNeg)
    exact cs_X1_cede_b202 E h hf
def c_X1_cede_b171 (E : zE) (N : iN) (s : cT) (g : zH) : Option ((Int32 ⊕ (Nat × Nat)) × (cT × zH)) :=
  c_X1_cede_b175 E N (-2 : Int32) s g
theorem cs_X1_cede_b171 (E : zE) {s : cT} {g : zH} (h : iH p s g N) (hf : c_X1_cede_b171 E N  s g = some (r, (s9, g9))) : f_X1_cede_b171 E (p.1 1) (cH p s g) = some (r, cH p s9 g9) ∧ iH p s9 g9 N := by
  unfold c_X1_cede_b171 at hf
  unfold f_X1_cede_b171
  exact cs_X1_cede_b175 E h hf
def c_X1_cede_b29 (E : zE) (N : iN) (p1 : Int32) (p2 : Int32) (p3 : Int32) (p4 : Int32) (p5 : Int32) (p6 : Int32) (p7 : Nat) (p8 : Nat) (s0 : Nat) (s1 : Nat) (s2 : Int32) (s3 : Int32) (s : cT) (g : zH) : Option ((Int32 ⊕ (Nat × Nat)) × (cT × zH)) :=
  (zgd .boolean s3).bind fun _ =>
  (sI g s1 3 s2 s3).bind fun g748 =>
  bnd2 (c_X1_isPlace E N p3 p4 s g748) fun x6 z750 =>
  (zgd .boolean x6).bind fun _ =>
  (sI z750.2 s0 3 (1 : Int32) x6).bind fun g754 =>
  (zgd .boolean (if ((p3 + (1 : Int32)).toInt64) ≤ (p5.toInt64) ∧ (p5.toInt64) ≤ (30 : Int64) then (1 : Int32) else 0)).bind fun _ =>
  (sI g754 s0 3 (2 : Int32) (if ((p3 + (1 : Int32)).toInt64) ≤ (p5.toInt64) ∧ (p5.toInt64) ≤ (30 : Int64) then (1 : Int32) else 0)).bind fun g758 =>
  (zgd .boolean (if ((p4 + (1 : Int32)).toInt64) ≤ (p6.toInt64) ∧ (p6.toInt64) ≤ (30 : Int64) then (1 : Int32) else 0)).bind fun _ =>
  (sI g758 s0 3 (3 : Int32) (if ((p4 + (1 : Int32)).toInt64) ≤ (p6.toInt64) ∧ (p6.toInt64) ≤ (30 : Int64) then (1 : Int32) else 0)).bind fun g762 =>
  bnd2 (c_X1_requireArguments E N s0 z750.1 g762) fun x24 z764 =>
  Sum.elim (fun x25 => (
    bnd2 (c_X11_isActive E N p7 z764.1 z764.2) fun x30 z767 =>
    if x30 = 0 then (
      c_X1_cede_b91 E N z767.1 z767.2
    ) else (
      bnd2 (c_X11_isActive E N p8 z767.1 z767.2) fun x35 z771 =>
      if x35 = 0 then (
        c_X1_cede_b91 E N z771.1 z771.2
      ) else (
        (ccpI z771.1 (N.1 + 16) 900 22 900 (0 : Int32) (0 : Int32) (900 : Int32)).bind fun s775 =>
        bnd2 (nO z771.2 12 4 [.int 0, .int 0, .int 0, .int 0]) fun q47 g777 =>
        bnd2 (c_X13_init E N q47 p3 p4 p5 p6 s775 g777) fun x52 z779 =>
        bnd2 (c_X1_moveCells E N p1 p2 q47 z779.1 z779.2) fun x56 z782 =>
        if x56 ≤ 0 then (
          c_X1_cede_b175 E N x56 z782.1 z782.2
        ) else (
          bnd2 (c_X5_isConnected E N p1 z782.1 z782.2) fun x65 z786 =>
          if x65 = 0 then (
            c_X1_cede_b171 E N z786.1 z786.2
          ) else (
            bnd2 (c_X5_isConnected E N p2 z786.1 z786.2) fun x74 z790 =>
            if x74 = 0 then (
              c_X1_cede_b171 E N z790.1 z790.2
            ) else (
              c_X1_cede_b175 E N x56 z790.1 z790.2
            )
          )
        )
      )
    )
  )) (fun q26 => (
    some (.inr q26, (z764.1, z764.2))
  )) x24
theorem cs_X1_cede_b29 (E : zE) {s : cT} {g : zH} (h : iH p s g N) {p1 : Int32} {p2 : Int32} {p3 : Int32} {p4 : Int32} {p5 : Int32} {p6 : Int32} {p7 : Nat} {p8 : Nat} {s0 : Nat} {s1 : Nat} {s2 : Int32} {s3 : Int32} (hi_p7 : p7 < N.2.1) (hi_p8 : p8 < N.2.1) (hq_s0 : p.2 s0 = none) (hq_s1 : p.2 s1 = none) (hf : c_X1_cede_b29 E N p1 p2 p3 p4 p5 p6 p7 p8 s0 s1 s2 s3 s g = some (r, (s9, g9))) : f_X1_cede_b29 E (p.1 1) p1 p2 p3 p4 p5 p6 (p.1 (N.1 + 130 + p7)) (p.1 (N.1 + 130 + p8)) s0 s1 s2 s3 (cH p s g) = some (r, cH p s9 g9) ∧ iH p s9 g9 N := by
  unfold c_X1_cede_b29 at hf
  unfold f_X1_cede_b29
  obtain ⟨_, e746, hf⟩ := zbind hf
  refine kb1 e746 ?_
  obtain ⟨g748, e747, hf⟩ := zbind hf
  refine kb1 ((r_sI hq_s1 _ _ _).trans (congrArg (Option.map (cH p _)) e747)) ?_
  have h := iH_g h (gle_sI e747)
  obtain ⟨x6, z750, e749, hf⟩ := zbind2 hf
  obtain ⟨e749, h⟩ := cs_X1_isPlace E h e749
  refine kbc e749 ?_
  obtain ⟨_, e752, hf⟩ := zbind hf
  refine kb1 e752 ?_
  obtain ⟨g754, e753, hf⟩ := zbind hf
  refine kb1 ((r_sI hq_s0 _ _ _).trans (congrArg (Option.map (cH p _)) e753)) ?_
  have h := iH_g h (gle_sI e753)
  refine kbc (b_inRange _ _ _ _ _) ?_
  obtain ⟨_, e756, hf⟩ := zbind hf
  refine kb1 e756 ?_
  obtain ⟨g758, e757, hf⟩ := zbind hf
  refine kb1 ((r_sI hq_s0 _ _ _).trans (congrArg (Option.map (cH p _)) e757)) ?_
  have h := iH_g h (gle_sI e757)
  refine kbc (b_inRange _ _ _ _ _) ?_
  obtain ⟨_, e760, hf⟩ := zbind hf
  refine kb1 e760 ?_
  obtain ⟨g762, e761, hf⟩ := zbind hf
  refine kb1 ((r_sI hq_s0 _ _ _).trans (congrArg (Option.map (cH p _)) e761)) ?_
  have h := iH_g h (gle_sI e761)
  obtain ⟨x24, z764, e763, hf⟩ := zbind2 hf
  obtain ⟨e763, h⟩ := cs_X1_requireArguments E h hq_s0 e763
  refine kbc e763 ?_
  rcases x24 with x25 | q26
  · have hf := zinl hf
    refine kel0_l ?_
    refine kb1 (a_Fr_ck h hi_p7) ?_
    obtain ⟨x30, z767, e766, hf⟩ := zbind2 hf
    obtain ⟨e766, h⟩ := cs_X11_isActive E h hi_p7 e766
    refine kbc e766 ?_
    by_cases c769 : x30 = 0
    · have hf := zif_t c769 hf
      refine kif_t c769 ?_
      exact cs_X1_cede_b91 E h hf
    · have hf := zif_f c769 hf
      refine kif_f c769 ?_
      refine kb1 (a_Fr_ck h hi_p8) ?_
      obtain ⟨x35, z771, e770, hf⟩ := zbind2 hf
      obtain ⟨e770, h⟩ := cs_X11_isActive E h hi_p8 e770
      refine kbc e770 ?_
      by_cases c773 : x35 = 0
      · have hf := zif_t c773 hf
        refine kif_t c773 ?_
        exact cs_X1_cede_b91 E h hf
      · have hf := zif_f c773 hf
        refine kif_f c773 ?_
        refine kb1 (a_X_R1 h) ?_
        refine kb1 (a_Bk_R2 h) ?_
        refine kb1 (a_Gr_R0 h) ?_
        refine kb1 (a_X_R3 h) ?_
        obtain ⟨s775, e774, hf⟩ := zbind hf
        refine kb1 (c_cpI h.1 (t := 2) (a_own_sh h) (a_bef_sh h) (Or.inr (Or.inl rfl)) e774) ?_
        obtain ⟨-, rfl⟩ := z_ite e774
        have h := iH_uA h (d := 22) (by have := h.2.2.2.2.2; exact ⟨by omega, by omega, by omega, fun _ _ => by omega⟩) (va_cpy (z771.1.2.1 (N.1 + 16)) (z771.1.2.1 22) ((0 : Int32)).toNatClampNeg ((0 : Int32)).toNatClampNeg ((900 : Int32)).toNatClampNeg)
        obtain ⟨q47, g777, e776, hf⟩ := zbind2 hf
        have hq_q47 := hq_nO h e776
        refine kbc (k_nO h e776) ?_
        have h := iH_g h (gle_nO e776)
        obtain ⟨x52, z779, e778, hf⟩ := zbind2 hf
        obtain ⟨e778, h⟩ := cs_X13_init E h hq_q47 e778
        refine kbc e778 ?_
        refine kb1 (a_X_ck h) ?_
        obtain ⟨x56, z782, e781, hf⟩ := zbind2 hf
        obtain ⟨e781, h⟩ := cs_X1_moveCells E h hq_q47 e781
        refine kbc e781 ?_
        by_cases c784 : x56 ≤ 0
        · have hf := zif_t c784 hf
          refine kif_t c784 ?_
          exact cs_X1_cede_b175 E h hf
        · have hf := zif_f c784 hf
          refine kif_f c784 ?_
          refine kb1 (a_X_R1 h) ?_
          refine kb1 (a_Bk_R2 h) ?_
          refine kb1 (a_Gr_ck h) ?_
          obtain ⟨x65, z786, e785, hf⟩ := zbind2 hf
          obtain ⟨e785, h⟩ := cs_X5_isConnected E h e785
          refine kbc e785 ?_
          by_cases c788 : x65 = 0
          · have hf := zif_t c788 hf
            refine kif_t c788 ?_
            exact cs_X1_cede_b171 E h hf
          · have hf := zif_f c788 hf
            refine kif_f c788 ?_
            refine kb1 (a_X_R1 h) ?_
            refine kb1 (a_Bk_R2 h) ?_
            refine kb1 (a_Gr_ck h) ?_
            obtain ⟨x74, z790, e789, hf⟩ := zbind2 hf
            obtain ⟨e789, h⟩ := cs_X5_isConnected E h e789
            refine kbc e789 ?_
            by_cases c792 : x74 = 0
            · have hf := zif_t c792 hf
              refine kif_t c792 ?_
              exact cs_X1_cede_b171 E h hf
            · have hf := zif_f c792 hf
              refine kif_f c792 ?_
              exact cs_X1_cede_b175 E h hf
  · have hf := zinr hf
    refine kel0_r ?_
    cases hf
    exact ⟨rfl, h⟩
def c_X1_cede_b0 (E : zE) (N : iN) (p1 : Int32) (p2 : Int32) (p3 : Int32) (p4 : Int32) (p5 : Int32) (p6 : Int32) (s : cT) (g : zH) : Option ((Int32 ⊕ (Nat × Nat)) × (cT × zH)) :=
  bnd2 (c_X1_franchisee E N p1 s g) fun x4 z794 =>
  Sum.elim (fun x5 => (
    bnd2 (c_X1_franchisee E N p2 z794.1 z794.2) fun x10 z797 =>
    Sum.elim (fun x11 => (
      bnd2 (nA z797.2 3 (4 : Int32) (.inl fun _ => 0)) fun q13 g800 =>
      if p1 = p2 then (
        c_X1_cede_b29 E N p1 p2 p3 p4 p5 p6 x5 x11 q13 q13 (0 : Int32) (0 : Int32) z797.1 g800
      ) else (
        c_X1_cede_b29 E N p1 p2 p3 p4 p5 p6 x5 x11 q13 q13 (0 : Int32) (1 : Int32) z797.1 g800
      )
    )) (fun q12 => (
      some (.inr q12, (z797.1, z797.2))
    )) x10
  )) (fun q6 => (
    some (.inr q6, (z794.1, z794.2))
  )) x4
theorem cs_X1_cede_b0 (E : zE) {s : cT} {g : zH} (h : iH p s g N) {p1 : Int32} {p2 : Int32} {p3 : Int32} {p4 : Int32} {p5 : Int32} {p6 : Int32} (hf : c_X1_cede_b0 E N p1 p2 p3 p4 p5 p6 s g = some (r, (s9, g9))) : f_X1_cede_b0 E (p.1 1) p1 p2 p3 p4 p5 p6 (cH p s g) = some (r, cH p s9 g9) ∧ iH p s9 g9 N := by
  unfold c_X1_cede_b0 at hf
  unfold f_X1_cede_b0
  refine kb1 (a_X_ck h) ?_
  obtain ⟨x4, z794, e793, hf⟩ := zbind2 hf
  obtain ⟨e793, h, hr_x4⟩ := cs_X1_franchisee E h e793
  refine kbc e793 ?_
  rcases x4 with x5 | q6
  · have hf := zinl hf
    have hi_x5 := hr_x4 _ rfl
    refine kel_l ?_
    refine kb1 (a_X_ck h) ?_
    obtain ⟨x10, z797, e796, hf⟩ := zbind2 hf
    obtain ⟨e796, h, hr_x10⟩ := cs_X1_franchisee E h e796
    refine kbc e796 ?_
    rcases x10 with x11 | q12
    · have hf := zinl hf
      have hi_x11 := hr_x10 _ rfl
      refine kel_l ?_
      obtain ⟨q13, g800, e799, hf⟩ := zbind2 hf
      have hq_q13 := hq_nA h e799
      refine kbc (k_nA h e799) ?_
      have h := iH_g h (gle_nA e799)
      by_cases c801 : p1 = p2
      · have hf := zif_t c801 hf
        refine kif_t c801 ?_
        exact cs_X1_cede_b29 E h hi_x5 hi_x11 hq_q13 hq_q13 hf
      · have hf := zif_f c801 hf
        refine kif_f c801 ?_
        exact cs_X1_cede_b29 E h hi_x5 hi_x11 hq_q13 hq_q13 hf
    · have hf := zinr hf
      refine kel_r ?_
      cases hf
      exact ⟨rfl, h⟩
  · have hf := zinr hf
    refine kel_r ?_
    cases hf
    exact ⟨rfl, h⟩
def c_X1_cede (E : zE) (N : iN) (p1 : Int32) (p2 : Int32) (p3 : Int32) (p4 : Int32) (p5 : Int32) (p6 : Int32) (s : cT) (g : zH) : Option ((Int32 ⊕ (Nat × Nat)) × (cT × zH)) :=
  c_X1_cede_b0 E N p1 p2 p3 p4 p5 p6 s g
theorem cs_X1_cede (E : zE) {s : cT} {g : zH} (h : iH p s g N) {p1 : Int32} {p2 : Int32} {p3 : Int32} {p4 : Int32} {p5 : Int32} {p6 : Int32} (hf : c_X1_cede E N p1 p2 p3 p4 p5 p6 s g = some (r, (s9, g9))) : f_X1_cede E (p.1 1) p1 p2 p3 p4 p5 p6 (cH p s g) = some (r, cH p s9 g9) ∧ iH p s9 g9 N := by
  unfold c_X1_cede at hf
  unfold f_X1_cede
  exact cs_X1_cede_b0 E h hf
end
section
variable {p : cP} {N : iN} {r : (Int32 ⊕ (Nat × Nat))} {s9 : cT} {g9 : zH}
def c_X1_outletOwner_b0 (E : zE) (N : iN) (p1 : Int32) (s : cT) (g : zH) : Option ((Int32 ⊕ (Nat × Nat)) × (cT × zH)) :=
  bnd2 (c_X1_outlet E N p1 s g) fun x4 z803 =>
  Sum.elim (fun x5 => (
    some (.inl (z803.1.2.1 (N.1 + 170 + x5) 1), (z803.1, z803.2))
  )) (fun q6 => (
    some (.inr q6, (z803.1, z803.2))
  )) x4
theorem cs_X1_outletOwner_b0 (E : zE) {s : cT} {g : zH} (h : iH p s g N) {p1 : Int32} (hf : c_X1_outletOwner_b0 E N p1 s g = some (r, (s9, g9))) : f_X1_outletOwner_b0 E (p.1 1) p1 (cH p s g) = some (r, cH p s9 g9) ∧ iH p s9 g9 N := by
  unfold c_X1_outletOwner_b0 at hf
  unfold f_X1_outletOwner_b0
  refine kb1 (a_X_ck h) ?_
  obtain ⟨x4, z803, e802, hf⟩ := zbind2 hf
  obtain ⟨e802, h, hr_x4⟩ := cs_X1_outlet E h e802
  refine kbc e802 ?_
  rcases x4 with x5 | q6
  · have hf := zinl hf
    have hi_x5 := hr_x4 _ rfl
    refine kel_l ?_
    refine kb1 (a_Ou_I1 h hi_x5) ?_
    cases hf
    exact ⟨rfl, h⟩
  · have hf := zinr hf
    refine kel_r ?_
    cases hf
    exact ⟨rfl, h⟩
def c_X1_outletOwner (E : zE) (N : iN) (p1 : Int32) (s : cT) (g : zH) : Option ((Int32 ⊕ (Nat × Nat)) × (cT × zH)) :=
  c_X1_outletOwner_b0 E N p1 s g
theorem cs_X1_outletOwner (E : zE) {s : cT} {g : zH} (h : iH p s g N) {p1 : Int32} (hf : c_X1_outletOwner E N p1 s g = some (r, (s9, g9))) : f_X1_outletOwner E (p.1 1) p1 (cH p s g) = some (r, cH p s9 g9) ∧ iH p s9 g9 N := by
  unfold c_X1_outletOwner at hf
  unfold f_X1_outletOwner
  exact cs_X1_outletOwner_b0 E h hf
end
section
variable {p : cP} {N : iN} {r : Int32} {s9 : cT} {g9 : zH}
def c_X1_told_b0 (E : zE) (N : iN) (p0 : Int32) (s : cT) (g : zH) : Option (Int32 × (cT × zH)) :=
  bnd2 (c_X1_row E N p0 s g) fun x3 z806 =>
  bnd2 (c_X1_column E N p0 z806.1 z806.2) fun x6 z809 =>
  some ((((100 : Int32) * x3) + x6), (z809.1, z809.2))
theorem cs_X1_told_b0 (E : zE) {s : cT} {g : zH} (h : iH p s g N) {p0 : Int32} (hf : c_X1_told_b0 E N p0 s g = some (r, (s9, g9))) : f_X1_told_b0 E p0 (cH p s g) = some (r, cH p s9 g9) ∧ iH p s9 g9 N := by
  unfold c_X1_told_b0 at hf
  unfold f_X1_told_b0
  obtain ⟨x3, z806, e805, hf⟩ := zbind2 hf
  obtain ⟨e805, h⟩ := cs_X1_row E h e805
  refine kbc e805 ?_
  obtain ⟨x6, z809, e808, hf⟩ := zbind2 hf
  obtain ⟨e808, h⟩ := cs_X1_column E h e808
  refine kbc e808 ?_
  cases hf
  exact ⟨rfl, h⟩
def c_X1_told (E : zE) (N : iN) (p0 : Int32) (s : cT) (g : zH) : Option (Int32 × (cT × zH)) :=
  c_X1_told_b0 E N p0 s g
theorem cs_X1_told (E : zE) {s : cT} {g : zH} (h : iH p s g N) {p0 : Int32} (hf : c_X1_told E N p0 s g = some (r, (s9, g9))) : f_X1_told E p0 (cH p s g) = some (r, cH p s9 g9) ∧ iH p s9 g9 N := by
  unfold c_X1_told at hf
  unfold f_X1_told
  exact cs_X1_told_b0 E h hf
end
section
variable {p : cP} {N : iN} {r : (Int32 ⊕ (Nat × Nat))} {s9 : cT} {g9 : zH}
def c_X1_outletCell_b0 (E : zE) (N : iN) (p1 : Int32) (s : cT) (g : zH) : Option ((Int32 ⊕ (Nat × Nat)) × (cT × zH)) :=
  bnd2 (c_X1_outlet E N p1 s g) fun x4 z812 =>
  Sum.elim (fun x5 => (
    bnd2 (c_X1_told E N (z812.1.2.1 (N.1 + 170 + x5) 0) z812.1 z812.2) fun x11 z815 =>
    some (.inl x11, (z815.1, z815.2))
  )) (fun q6 => (
    some (.inr q6, (z812.1, z812.2))
  )) x4
theorem cs_X1_outletCell_b0 (E : zE) {s : cT} {g : zH} (h : iH p s g N) {p1 : Int32} (hf : c_X1_outletCell_b0 E N p1 s g = some (r, (s9, g9))) : f_X1_outletCell_b0 E (p.1 1) p1 (cH p s g) = some (r, cH p s9 g9) ∧ iH p s9 g9 N := by
  unfold c_X1_outletCell_b0 at hf
  unfold f_X1_outletCell_b0
  refine kb1 (a_X_ck h) ?_
  obtain ⟨x4, z812, e811, hf⟩ := zbind2 hf
  obtain ⟨e811, h, hr_x4⟩ := cs_X1_outlet E h e811
  refine kbc e811 ?_
  rcases x4 with x5 | q6
  · have hf := zinl hf
    have hi_x5 := hr_x4 _ rfl
    refine kel_l ?_
    refine kb1 (a_Ou_I0 h hi_x5) ?_
    obtain ⟨x11, z815, e814, hf⟩ := zbind2 hf
    obtain ⟨e814, h⟩ := cs_X1_told E h e814
    refine kbc e814 ?_
    cases hf
    exact ⟨rfl, h⟩
  · have hf := zinr hf
    refine kel_r ?_
    cases hf
    exact ⟨rfl, h⟩
def c_X1_outletCell (E : zE) (N : iN) (p1 : Int32) (s : cT) (g : zH) : Option ((Int32 ⊕ (Nat × Nat)) × (cT × zH)) :=
  c_X1_outletCell_b0 E N p1 s g
theorem cs_X1_outletCell (E : zE) {s : cT} {g : zH} (h : iH p s g N) {p1 : Int32} (hf : c_X1_outletCell E N p1 s g = some (r, (s9, g9))) : f_X1_outletCell E (p.1 1) p1 (cH p s g) = some (r, cH p s9 g9) ∧ iH p s9 g9 N := by
  unfold c_X1_outletCell at hf
  unfold f_X1_outletCell
  exact cs_X1_outletCell_b0 E h hf
end
section
variable {p : cP} {N : iN} {r : Int32} {s9 : cT} {g9 : zH}
def c_X4_nearest_b73 (E : zE) (N : iN) (k7 : Int32 → Int32 → Int32 → Int32 → cT → zH → Option (Int32 × (cT × zH))) (p1 : Int32) (p2 : Int32) (p3 : Int32) (p4 : Int32) (s : cT) (g : zH) : Option (Int32 × (cT × zH)) :=
  k7 p1 p2 p3 (p4 + 1) s g
theorem cs_X4_nearest_b73 (E : zE) {K7 : Nat → Int32 → Int32 → Int32 → Int32 → zH → Option (Int32 × zH)} {k7 : Int32 → Int32 → Int32 → Int32 → cT → zH → Option (Int32 × (cT × zH))} (hk7 : ∀ {s : cT} {g : zH} (h : iH p s g N) {p1 : Int32} {p2 : Int32} {p3 : Int32} {p4 : Int32}, k7 p1 p2 p3 p4 s g = some (r, (s9, g9)) → K7 (p.1 (N.1 + 10)) p1 p2 p3 p4 (cH p s g) = some (r, cH p s9 g9) ∧ iH p s9 g9 N) {s : cT} {g : zH} (h : iH p s g N) {p1 : Int32} {p2 : Int32} {p3 : Int32} {p4 : Int32} (hf : c_X4_nearest_b73 E N k7 p1 p2 p3 p4 s g = some (r, (s9, g9))) : f_X4_nearest_b73 E K7 (p.1 (N.1 + 10)) p1 p2 p3 p4 (cH p s g) = some (r, cH p s9 g9) ∧ iH p s9 g9 N := by
  unfold c_X4_nearest_b73 at hf
  unfold f_X4_nearest_b73
  exact hk7 h hf
def c_X4_nearest_b59 (E : zE) (N : iN) (k7 : Int32 → Int32 → Int32 → Int32 → cT → zH → Option (Int32 × (cT × zH))) (p1 : Int32) (p2 : Int32) (p3 : Int32) (p4 : Int32) (p5 : Nat) (s : cT) (g : zH) : Option (Int32 × (cT × zH)) :=
  bnd2 (c_X1_distance_2 E N (s.2.1 (N.1 + 170 + p5) 0) p1 s g) fun x5 z851 =>
  bnd2 (c_J12_min E N p3 x5 z851.1 z851.2) fun x8 z854 =>
  c_X4_nearest_b73 E N k7 p1 p2 x8 p4 z854.1 z854.2
theorem cs_X4_nearest_b59 (E : zE) {K7 : Nat → Int32 → Int32 → Int32 → Int32 → zH → Option (Int32 × zH)} {k7 : Int32 → Int32 → Int32 → Int32 → cT → zH → Option (Int32 × (cT × zH))} (hk7 : ∀ {s : cT} {g : zH} (h : iH p s g N) {p1 : Int32} {p2 : Int32} {p3 : Int32} {p4 : Int32}, k7 p1 p2 p3 p4 s g = some (r, (s9, g9)) → K7 (p.1 (N.1 + 10)) p1 p2 p3 p4 (cH p s g) = some (r, cH p s9 g9) ∧ iH p s9 g9 N) {s : cT} {g : zH} (h : iH p s g N) {p1 : Int32} {p2 : Int32} {p3 : Int32} {p4 : Int32} {p5 : Nat} (hi_p5 : p5 < N.2.2.1) (hf : c_X4_nearest_b59 E N k7 p1 p2 p3 p4 p5 s g = some (r, (s9, g9))) : f_X4_nearest_b59 E K7 (p.1 (N.1 + 10)) p1 p2 p3 p4 (p.1 (N.1 + 170 + p5)) (cH p s g) = some (r, cH p s9 g9) ∧ iH p s9 g9 N := by
  unfold c_X4_nearest_b59 at hf
  unfold f_X4_nearest_b59
  refine kb1 (a_Ou_I0 h hi_p5) ?_
  obtain ⟨x5, z851, e850, hf⟩ := zbind2 hf
  obtain ⟨e850, h⟩ := cs_X1_distance_2 E h e850
  refine kbc e850 ?_
  obtain ⟨x8, z854, e853, hf⟩ := zbind2 hf
  obtain ⟨e853, h⟩ := cs_J12_min E h e853
  refine kbc e853 ?_
  exact cs_X4_nearest_b73 E hk7 h hf
def c_X4_nearest_l7 (E : zE) (N : iN) : Nat → Int32 → Int32 → Int32 → Int32 → cT → zH → Option (Int32 × (cT × zH))
  | 0, _, _, _, _, _, _ => none
  | n + 1, p1, p2, p3, p4, s, g =>
    if (Int32.ofNat N.2.2.1) ≤ p4 then (
      some (p3, (s, g))
    ) else (
      (cGet N.2.2.1 p4).bind fun i859 =>
      bnd2 (c_X14_isOpen E N i859 s g) fun x18 z861 =>
      if x18 = 0 then (
        c_X4_nearest_b73 E N (c_X4_nearest_l7 E N n) p1 p2 p3 p4 z861.1 z861.2
      ) else (
        if p2 = (-1 : Int32) then (
          c_X4_nearest_b59 E N (c_X4_nearest_l7 E N n) p1 p2 p3 p4 i859 z861.1 z861.2
        ) else (
          if (z861.1.2.1 (N.1 + 170 + i859) 1) = p2 then (
            c_X4_nearest_b59 E N (c_X4_nearest_l7 E N n) p1 p2 p3 p4 i859 z861.1 z861.2
          ) else (
            c_X4_nearest_b73 E N (c_X4_nearest_l7 E N n) p1 p2 p3 p4 z861.1 z861.2
          )
        )
      )
    )
theorem cs_X4_nearest_l7 (E : zE) : ∀ (n : Nat) {s : cT} {g : zH} (h : iH p s g N) {p1 : Int32} {p2 : Int32} {p3 : Int32} {p4 : Int32}, c_X4_nearest_l7 E N n p1 p2 p3 p4 s g = some (r, (s9, g9)) → f_X4_nearest_l7 E n (p.1 (N.1 + 10)) p1 p2 p3 p4 (cH p s g) = some (r, cH p s9 g9) ∧ iH p s9 g9 N := by
  intro n
  induction n with
  | zero =>
    intro s g h p1 p2 p3 p4 hf
    cases hf
  | succ n ih =>
    intro s g h p1 p2 p3 p4 hf
    unfold c_X4_nearest_l7 at hf
    unfold f_X4_nearest_l7
    refine kb1 (a_Bk_R1 h) ?_
    refine kb1 (a_OL_ck h) ?_
    refine kbc (a_OL_n h E) ?_
    by_cases c857 : (Int32.ofNat N.2.2.1) ≤ p4
    · have hf := zif_t c857 hf
      refine kif_t c857 ?_
      cases hf
      exact ⟨rfl, h⟩
    · have hf := zif_f c857 hf
      refine kif_f c857 ?_
      refine kb1 (a_Bk_R1 h) ?_
      refine kb1 (a_OL_ck h) ?_
      obtain ⟨i859, e858, hf⟩ := zbind hf
      have hi_i859 := cGet_lt e858
      refine kbc (a_OL_G h E e858) ?_
      refine kb1 (a_Ou_ck h hi_i859) ?_
      refine kb1 (a_Ou_ck h hi_i859) ?_
      obtain ⟨x18, z861, e860, hf⟩ := zbind2 hf
      obtain ⟨e860, h⟩ := cs_X14_isOpen E h hi_i859 e860
      refine kbc e860 ?_
      by_cases c863 : x18 = 0
      · have hf := zif_t c863 hf
        refine kif_t c863 ?_
        exact cs_X4_nearest_b73 E ih h hf
      · have hf := zif_f c863 hf
        refine kif_f c863 ?_
        by_cases c864 : p2 = (-1 : Int32)
        · have hf := zif_t c864 hf
          refine kif_t c864 ?_
          exact cs_X4_nearest_b59 E ih h hi_i859 hf
        · have hf := zif_f c864 hf
          refine kif_f c864 ?_
          refine kb1 (a_Ou_I1 h hi_i859) ?_
          by_cases c865 : (z861.1.2.1 (N.1 + 170 + i859) 1) = p2
          · have hf := zif_t c865 hf
            refine kif_t c865 ?_
            exact cs_X4_nearest_b59 E ih h hi_i859 hf
          · have hf := zif_f c865 hf
            refine kif_f c865 ?_
            exact cs_X4_nearest_b73 E ih h hf
def c_X4_nearest_b0 (E : zE) (N : iN) (p1 : Int32) (p2 : Int32) (s : cT) (g : zH) : Option (Int32 × (cT × zH)) :=
  c_X4_nearest_l7 E N E.1 p1 p2 (1000 : Int32) (0 : Int32) s g
theorem cs_X4_nearest_b0 (E : zE) {s : cT} {g : zH} (h : iH p s g N) {p1 : Int32} {p2 : Int32} (hf : c_X4_nearest_b0 E N p1 p2 s g = some (r, (s9, g9))) : f_X4_nearest_b0 E (p.1 (N.1 + 10)) p1 p2 (cH p s g) = some (r, cH p s9 g9) ∧ iH p s9 g9 N := by
  unfold c_X4_nearest_b0 at hf
  unfold f_X4_nearest_b0
  exact cs_X4_nearest_l7 E E.1 h hf
def c_X4_nearest (E : zE) (N : iN) (p1 : Int32) (p2 : Int32) (s : cT) (g : zH) : Option (Int32 × (cT × zH)) :=
  c_X4_nearest_b0 E N p1 p2 s g
theorem cs_X4_nearest (E : zE) {s : cT} {g : zH} (h : iH p s g N) {p1 : Int32} {p2 : Int32} (hf : c_X4_nearest E N p1 p2 s g = some (r, (s9, g9))) : f_X4_nearest E (p.1 (N.1 + 10)) p1 p2 (cH p s g) = some (r, cH p s9 g9) ∧ iH p s9 g9 N := by
  unfold c_X4_nearest at hf
  unfold f_X4_nearest
  exact cs_X4_nearest_b0 E h hf
end
section
variable {p : cP} {N : iN} {r : (Int32 ⊕ (Nat × Nat))} {s9 : cT} {g9 : zH}
def c_X1_bestSite_b112 (E : zE) (N : iN) (s0 : Int32) (s : cT) (g : zH) : Option ((Int32 ⊕ (Nat × Nat)) × (cT × zH)) :=
  some (.inl s0, (s, g))
theorem cs_X1_bestSite_b112 (E : zE) {s : cT} {g : zH} (h : iH p s g N) {s0 : Int32} (hf : c_X1_bestSite_b112 E N s0 s g = some (r, (s9, g9))) : f_X1_bestSite_b112 E s0 (cH p s g) = some (r, cH p s9 g9) ∧ iH p s9 g9 N := by
  unfold c_X1_bestSite_b112 at hf
  unfold f_X1_bestSite_b112
  cases hf
  exact ⟨rfl, h⟩
def c_X1_bestSite_b93 (E : zE) (N : iN) (k21 : Int32 → Int32 → Int32 → Int32 → cT → zH → Option ((Int32 ⊕ (Nat × Nat)) × (cT × zH))) (p1 : Int32) (p2 : Int32) (p3 : Int32) (p4 : Int32) (s : cT) (g : zH) : Option ((Int32 ⊕ (Nat × Nat)) × (cT × zH)) :=
  k21 p1 p2 p3 (p4 + 1) s g
theorem cs_X1_bestSite_b93 (E : zE) {K21 : Nat → Int32 → Int32 → Int32 → Int32 → zH → Option ((Int32 ⊕ (Nat × Nat)) × zH)} {k21 : Int32 → Int32 → Int32 → Int32 → cT → zH → Option ((Int32 ⊕ (Nat × Nat)) × (cT × zH))} (hk21 : ∀ {s : cT} {g : zH} (h : iH p s g N) {p1 : Int32} {p2 : Int32} {p3 : Int32} {p4 : Int32}, k21 p1 p2 p3 p4 s g = some (r, (s9, g9)) → K21 (p.1 1) p1 p2 p3 p4 (cH p s g) = some (r, cH p s9 g9) ∧ iH p s9 g9 N) {s : cT} {g : zH} (h : iH p s g N) {p1 : Int32} {p2 : Int32} {p3 : Int32} {p4 : Int32} (hf : c_X1_bestSite_b93 E N k21 p1 p2 p3 p4 s g = some (r, (s9, g9))) : f_X1_bestSite_b93 E K21 (p.1 1) p1 p2 p3 p4 (cH p s g) = some (r, cH p s9 g9) ∧ iH p s9 g9 N := by
  unfold c_X1_bestSite_b93 at hf
  unfold f_X1_bestSite_b93
  exact hk21 h hf
def c_X1_bestSite_b87 (E : zE) (N : iN) (k21 : Int32 → Int32 → Int32 → Int32 → cT → zH → Option ((Int32 ⊕ (Nat × Nat)) × (cT × zH))) (p1 : Int32) (p4 : Int32) (p5 : Int32) (s : cT) (g : zH) : Option ((Int32 ⊕ (Nat × Nat)) × (cT × zH)) :=
  c_X1_bestSite_b93 E N k21 p1 p4 p5 p4 s g
theorem cs_X1_bestSite_b87 (E : zE) {K21 : Nat → Int32 → Int32 → Int32 → Int32 → zH → Option ((Int32 ⊕ (Nat × Nat)) × zH)} {k21 : Int32 → Int32 → Int32 → Int32 → cT → zH → Option ((Int32 ⊕ (Nat × Nat)) × (cT × zH))} (hk21 : ∀ {s : cT} {g : zH} (h : iH p s g N) {p1 : Int32} {p2 : Int32} {p3 : Int32} {p4 : Int32}, k21 p1 p2 p3 p4 s g = some (r, (s9, g9)) → K21 (p.1 1) p1 p2 p3 p4 (cH p s g) = some (r, cH p s9 g9) ∧ iH p s9 g9 N) {s : cT} {g : zH} (h : iH p s g N) {p1 : Int32} {p4 : Int32} {p5 : Int32} (hf : c_X1_bestSite_b87 E N k21 p1 p4 p5 s g = some (r, (s9, g9))) : f_X1_bestSite_b87 E K21 (p.1 1) p1 p4 p5 (cH p s g) = some (r, cH p s9 g9) ∧ iH p s9 g9 N := by
  unfold c_X1_bestSite_b87 at hf
  unfold f_X1_bestSite_b87
  exact cs_X1_bestSite_b93 E hk21 h hf
def c_X1_bestSite_l21 (E : zE) (N : iN) : Nat → Int32 → Int32 → Int32 → Int32 → cT → zH → Option ((Int32 ⊕ (Nat × Nat)) × (cT × zH))
  | 0, _, _, _, _, _, _ => none
  | n + 1, p1, p2, p3, p4, s, g =>
    if (900 : Int32) ≤ p4 then (
      if p2 = (-1 : Int32) then (
        c_X1_bestSite_b112 E N (-1 : Int32) s g
      ) else (
        bnd2 (c_X1_told E N p2 s g) fun x5 z869 =>
        c_X1_bestSite_b112 E N x5 z869.1 z869.2
      )
    ) else (
      (cdI s (N.1 + 16) 900 p4).bind fun x12 =>
      if x12 = p1 then (
        bnd2 (c_X4_hasOutlet E N p4 s g) fun x20 z875 =>
        if x20 = 0 then (
          bnd2 (c_X4_nearest E N p4 (-1 : Int32) z875.1 z875.2) fun x27 z879 =>
          if p2 = (-1 : Int32) then (
            c_X1_bestSite_b87 E N (c_X1_bestSite_l21 E N n) p1 p4 x27 z879.1 z879.2
          ) else (
            if p3 < x27 then (
              c_X1_bestSite_b87 E N (c_X1_bestSite_l21 E N n) p1 p4 x27 z879.1 z879.2
            ) else (
              c_X1_bestSite_b93 E N (c_X1_bestSite_l21 E N n) p1 p2 p3 p4 z879.1 z879.2
            )
          )
        ) else (
          c_X1_bestSite_b93 E N (c_X1_bestSite_l21 E N n) p1 p2 p3 p4 z875.1 z875.2
        )
      ) else (
        c_X1_bestSite_b93 E N (c_X1_bestSite_l21 E N n) p1 p2 p3 p4 s g
      )
    )
theorem cs_X1_bestSite_l21 (E : zE) : ∀ (n : Nat) {s : cT} {g : zH} (h : iH p s g N) {p1 : Int32} {p2 : Int32} {p3 : Int32} {p4 : Int32}, c_X1_bestSite_l21 E N n p1 p2 p3 p4 s g = some (r, (s9, g9)) → f_X1_bestSite_l21 E n (p.1 1) p1 p2 p3 p4 (cH p s g) = some (r, cH p s9 g9) ∧ iH p s9 g9 N := by
  intro n
  induction n with
  | zero =>
    intro s g h p1 p2 p3 p4 hf
    cases hf
  | succ n ih =>
    intro s g h p1 p2 p3 p4 hf
    unfold c_X1_bestSite_l21 at hf
    unfold f_X1_bestSite_l21
    by_cases c866 : (900 : Int32) ≤ p4
    · have hf := zif_t c866 hf
      refine kif_t c866 ?_
      by_cases c867 : p2 = (-1 : Int32)
      · have hf := zif_t c867 hf
        refine kif_t c867 ?_
        exact cs_X1_bestSite_b112 E h hf
      · have hf := zif_f c867 hf
        refine kif_f c867 ?_
        obtain ⟨x5, z869, e868, hf⟩ := zbind2 hf
        obtain ⟨e868, h⟩ := cs_X1_told E h e868
        refine kbc e868 ?_
        exact cs_X1_bestSite_b112 E h hf
    · have hf := zif_f c866 hf
      refine kif_f c866 ?_
      refine kb1 (a_X_R1 h) ?_
      refine kb1 (a_Bk_R2 h) ?_
      refine kb1 (a_Gr_R0 h) ?_
      obtain ⟨x12, e871, hf⟩ := zbind hf
      obtain ⟨hj872, e871⟩ := cdI_spec e871
      refine kb1 ((a_own_d h hj872).trans (congrArg some e871)) ?_
      by_cases c873 : x12 = p1
      · have hf := zif_t c873 hf
        refine kif_t c873 ?_
        refine kb1 (a_X_R1 h) ?_
        refine kb1 (a_Bk_ck h) ?_
        obtain ⟨x20, z875, e874, hf⟩ := zbind2 hf
        obtain ⟨e874, h⟩ := cs_X4_hasOutlet E h e874
        refine kbc e874 ?_
        by_cases c877 : x20 = 0
        · have hf := zif_t c877 hf
          refine kif_t c877 ?_
          refine kb1 (a_X_R1 h) ?_
          refine kb1 (a_Bk_ck h) ?_
          obtain ⟨x27, z879, e878, hf⟩ := zbind2 hf
          obtain ⟨e878, h⟩ := cs_X4_nearest E h e878
          refine kbc e878 ?_
          by_cases c881 : p2 = (-1 : Int32)
          · have hf := zif_t c881 hf
            refine kif_t c881 ?_
            exact cs_X1_bestSite_b87 E ih h hf
          · have hf := zif_f c881 hf
            refine kif_f c881 ?_
            by_cases c882 : p3 < x27
            · have hf := zif_t c882 hf
              refine kif_t c882 ?_
              exact cs_X1_bestSite_b87 E ih h hf
            · have hf := zif_f c882 hf
              refine kif_f c882 ?_
              exact cs_X1_bestSite_b93 E ih h hf
        · have hf := zif_f c877 hf
          refine kif_f c877 ?_
          exact cs_X1_bestSite_b93 E ih h hf
      · have hf := zif_f c873 hf
        refine kif_f c873 ?_
        exact cs_X1_bestSite_b93 E ih h hf
def c_X1_bestSite_b0 (E : zE) (N : iN) (p1 : Int32) (s : cT) (g : zH) : Option ((Int32 ⊕ (Nat × Nat)) × (cT × zH)) :=
  bnd2 (nA g 3 (1 : Int32) (.inl fun _ => 0)) fun q1 g884 =>
  bnd2 (c_X1_isFranchisee E N p1 s g884) fun x7 z886 =>
  (zgd .boolean x7).bind fun _ =>
  (sI z886.2 q1 3 (0 : Int32) x7).bind fun g890 =>
  bnd2 (c_X1_requireIndex E N q1 z886.1 g890) fun x13 z892 =>
  Sum.elim (fun x14 => (
    c_X1_bestSite_l21 E N E.1 p1 (-1 : Int32) (0 : Int32) (0 : Int32) z892.1 z892.2
  )) (fun q15 => (
    some (.inr q15, (z892.1, z892.2))
  )) x13
theorem cs_X1_bestSite_b0 (E : zE) {s : cT} {g : zH} (h : iH p s g N) {p1 : Int32} (hf : c_X1_bestSite_b0 E N p1 s g = some (r, (s9, g9))) : f_X1_bestSite_b0 E (p.1 1) p1 (cH p s g) = some (r, cH p s9 g9) ∧ iH p s9 g9 N := by
  unfold c_X1_bestSite_b0 at hf
  unfold f_X1_bestSite_b0
  obtain ⟨q1, g884, e883, hf⟩ := zbind2 hf
  have hq_q1 := hq_nA h e883
  refine kbc (k_nA h e883) ?_
  have h := iH_g h (gle_nA e883)
  refine kb1 (a_X_ck h) ?_
  obtain ⟨x7, z886, e885, hf⟩ := zbind2 hf
  obtain ⟨e885, h⟩ := cs_X1_isFranchisee E h e885
  refine kbc e885 ?_
  obtain ⟨_, e888, hf⟩ := zbind hf
  refine kb1 e888 ?_
  obtain ⟨g890, e889, hf⟩ := zbind hf
  refine kb1 ((r_sI hq_q1 _ _ _).trans (congrArg (Option.map (cH p _)) e889)) ?_
  have h := iH_g h (gle_sI e889)
  obtain ⟨x13, z892, e891, hf⟩ := zbind2 hf
  obtain ⟨e891, h⟩ := cs_X1_requireIndex E h hq_q1 e891
  refine kbc e891 ?_
  rcases x13 with x14 | q15
  · have hf := zinl hf
    refine kel0_l ?_
    exact cs_X1_bestSite_l21 E E.1 h hf
  · have hf := zinr hf
    refine kel0_r ?_
    cases hf
    exact ⟨rfl, h⟩
def c_X1_bestSite (E : zE) (N : iN) (p1 : Int32) (s : cT) (g : zH) : Option ((Int32 ⊕ (Nat × Nat)) × (cT × zH)) :=
  c_X1_bestSite_b0 E N p1 s g
theorem cs_X1_bestSite (E : zE) {s : cT} {g : zH} (h : iH p s g N) {p1 : Int32} (hf : c_X1_bestSite E N p1 s g = some (r, (s9, g9))) : f_X1_bestSite E (p.1 1) p1 (cH p s g) = some (r, cH p s9 g9) ∧ iH p s9 g9 N := by
  unfold c_X1_bestSite at hf
  unfold f_X1_bestSite
  exact cs_X1_bestSite_b0 E h hf
end
section
variable {p : cP} {N : iN} {r : (Int32 ⊕ (Nat × Nat))} {s9 : cT} {g9 : zH}
def c_X1_coverage_b82 (E : zE) (N : iN) (k37 : Int32 → Int32 → Int32 → Int32 → cT → zH → Option ((Int32 ⊕ (Nat × Nat)) × (cT × zH))) (p1 : Int32) (p2 : Int32) (p4 : Int32) (s0 : Int32) (s1 : Int32) (s : cT) (g : zH) : Option ((Int32 ⊕ (Nat × Nat)) × (cT × zH)) :=
  k37 p1 p2 (s0 + s1) (p4 + 1) s g
theorem cs_X1_coverage_b82 (E : zE) {K37 : Nat → Int32 → Int32 → Int32 → Int32 → zH → Option ((Int32 ⊕ (Nat × Nat)) × zH)} {k37 : Int32 → Int32 → Int32 → Int32 → cT → zH → Option ((Int32 ⊕ (Nat × Nat)) × (cT × zH))} (hk37 : ∀ {s : cT} {g : zH} (h : iH p s g N) {p1 : Int32} {p2 : Int32} {p3 : Int32} {p4 : Int32}, k37 p1 p2 p3 p4 s g = some (r, (s9, g9)) → K37 (p.1 1) p1 p2 p3 p4 (cH p s g) = some (r, cH p s9 g9) ∧ iH p s9 g9 N) {s : cT} {g : zH} (h : iH p s g N) {p1 : Int32} {p2 : Int32} {p4 : Int32} {s0 : Int32} {s1 : Int32} (hf : c_X1_coverage_b82 E N k37 p1 p2 p4 s0 s1 s g = some (r, (s9, g9))) : f_X1_coverage_b82 E K37 (p.1 1) p1 p2 p4 s0 s1 (cH p s g) = some (r, cH p s9 g9) ∧ iH p s9 g9 N := by
  unfold c_X1_coverage_b82 at hf
  unfold f_X1_coverage_b82
  exact hk37 h hf
def c_X1_coverage_b81 (E : zE) (N : iN) (k37 : Int32 → Int32 → Int32 → Int32 → cT → zH → Option ((Int32 ⊕ (Nat × Nat)) × (cT × zH))) (p1 : Int32) (p2 : Int32) (p4 : Int32) (s0 : Int32) (s : cT) (g : zH) : Option ((Int32 ⊕ (Nat × Nat)) × (cT × zH)) :=
  c_X1_coverage_b82 E N k37 p1 p2 p4 s0 (0 : Int32) s g
theorem cs_X1_coverage_b81 (E : zE) {K37 : Nat → Int32 → Int32 → Int32 → Int32 → zH → Option ((Int32 ⊕ (Nat × Nat)) × zH)} {k37 : Int32 → Int32 → Int32 → Int32 → cT → zH → Option ((Int32 ⊕ (Nat × Nat)) × (cT × zH))} (hk37 : ∀ {s : cT} {g : zH} (h : iH p s g N) {p1 : Int32} {p2 : Int32} {p3 : Int32} {p4 : Int32}, k37 p1 p2 p3 p4 s g = some (r, (s9, g9)) → K37 (p.1 1) p1 p2 p3 p4 (cH p s g) = some (r, cH p s9 g9) ∧ iH p s9 g9 N) {s : cT} {g : zH} (h : iH p s g N) {p1 : Int32} {p2 : Int32} {p4 : Int32} {s0 : Int32} (hf : c_X1_coverage_b81 E N k37 p1 p2 p4 s0 s g = some (r, (s9, g9))) : f_X1_coverage_b81 E K37 (p.1 1) p1 p2 p4 s0 (cH p s g) = some (r, cH p s9 g9) ∧ iH p s9 g9 N := by
  unfold c_X1_coverage_b81 at hf
  unfold f_X1_coverage_b81
  exact cs_X1_coverage_b82 E hk37 h hf
def c_X1_coverage_l37 (E : zE) (N : iN) : Nat → Int32 → Int32 → Int32 → Int32 → cT → zH → Option ((Int32 ⊕ (Nat × Nat)) × (cT × zH))
  | 0, _, _, _, _, _, _ => none
  | n + 1, p1, p2, p3, p4, s, g =>
    if (900 : Int32) ≤ p4 then (
      some (.inl p3, (s, g))
    ) else (
      (cdI s (N.1 + 16) 900 p4).bind fun x8 =>
      if x8 = p1 then (
        bnd2 (c_X4_nearest E N p4 p1 s g) fun x16 z899 =>
        if p2 < x16 then (
          c_X1_coverage_b81 E N (c_X1_coverage_l37 E N n) p1 p2 p4 p3 z899.1 z899.2
        ) else (
          c_X1_coverage_b82 E N (c_X1_coverage_l37 E N n) p1 p2 p4 p3 (1 : Int32) z899.1 z899.2
        )
      ) else (
        c_X1_coverage_b81 E N (c_X1_coverage_l37 E N n) p1 p2 p4 p3 s g
      )
    )
theorem cs_X1_coverage_l37 (E : zE) : ∀ (n : Nat) {s : cT} {g : zH} (h : iH p s g N) {p1 : Int32} {p2 : Int32} {p3 : Int32} {p4 : Int32}, c_X1_coverage_l37 E N n p1 p2 p3 p4 s g = some (r, (s9, g9)) → f_X1_coverage_l37 E n (p.1 1) p1 p2 p3 p4 (cH p s g) = some (r, cH p s9 g9) ∧ iH p s9 g9 N := by
  intro n
  induction n with
  | zero =>
    intro s g h p1 p2 p3 p4 hf
    cases hf
  | succ n ih =>
    intro s g h p1 p2 p3 p4 hf
    unfold c_X1_coverage_l37 at hf
    unfold f_X1_coverage_l37
    by_cases c894 : (900 : Int32) ≤ p4
    · have hf := zif_t c894 hf
      refine kif_t c894 ?_
      cases hf
      exact ⟨rfl, h⟩
    · have hf := zif_f c894 hf
      refine kif_f c894 ?_
      refine kb1 (a_X_R1 h) ?_
      refine kb1 (a_Bk_R2 h) ?_
      refine kb1 (a_Gr_R0 h) ?_
      obtain ⟨x8, e895, hf⟩ := zbind hf
      obtain ⟨hj896, e895⟩ := cdI_spec e895
      refine kb1 ((a_own_d h hj896).trans (congrArg some e895)) ?_
      by_cases c897 : x8 = p1
      · have hf := zif_t c897 hf
        refine kif_t c897 ?_
        refine kb1 (a_X_R1 h) ?_
        refine kb1 (a_Bk_ck h) ?_
        obtain ⟨x16, z899, e898, hf⟩ := zbind2 hf
        obtain ⟨e898, h⟩ := cs_X4_nearest E h e898
        refine kbc e898 ?_
        by_cases c901 : p2 < x16
        · have hf := zif_t c901 hf
          refine kif_t c901 ?_
          exact cs_X1_coverage_b81 E ih h hf
        · have hf := zif_f c901 hf
          refine kif_f c901 ?_
          exact cs_X1_coverage_b82 E ih h hf
      · have hf := zif_f c897 hf
        refine kif_f c897 ?_
        exact cs_X1_coverage_b81 E ih h hf
def c_X1_coverage_b0 (E : zE) (N : iN) (p1 : Int32) (p2 : Int32) (s : cT) (g : zH) : Option ((Int32 ⊕ (Nat × Nat)) × (cT × zH)) :=
  bnd2 (nA g 3 (1 : Int32) (.inl fun _ => 0)) fun q1 g903 =>
  bnd2 (c_X1_isFranchisee E N p1 s g903) fun x7 z905 =>
  (zgd .boolean x7).bind fun _ =>
  (sI z905.2 q1 3 (0 : Int32) x7).bind fun g909 =>
  bnd2 (c_X1_requireIndex E N q1 z905.1 g909) fun x13 z911 =>
  Sum.elim (fun x14 => (
    bnd2 (nA z911.2 3 (1 : Int32) (.inl fun _ => 0)) fun q16 g914 =>
    (zgd .boolean (if (0 : Int64) ≤ (p2.toInt64) ∧ (p2.toInt64) ≤ (58 : Int64) then (1 : Int32) else 0)).bind fun _ =>
    (sI g914 q16 3 (0 : Int32) (if (0 : Int64) ≤ (p2.toInt64) ∧ (p2.toInt64) ≤ (58 : Int64) then (1 : Int32) else 0)).bind fun g918 =>
    bnd2 (c_X1_requireArguments E N q16 z911.1 g918) fun x27 z920 =>
    Sum.elim (fun x28 => (
      c_X1_coverage_l37 E N E.1 p1 p2 (0 : Int32) (0 : Int32) z920.1 z920.2
    )) (fun q29 => (
      some (.inr q29, (z920.1, z920.2))
    )) x27
  )) (fun q15 => (
    some (.inr q15, (z911.1, z911.2))
  )) x13
theorem cs_X1_coverage_b0 (E : zE) {s : cT} {g : zH} (h : iH p s g N) {p1 : Int32} {p2 : Int32} (hf : c_X1_coverage_b0 E N p1 p2 s g = some (r, (s9, g9))) : f_X1_coverage_b0 E (p.1 1) p1 p2 (cH p s g) = some (r, cH p s9 g9) ∧ iH p s9 g9 N := by
  unfold c_X1_coverage_b0 at hf
  unfold f_X1_coverage_b0
  obtain ⟨q1, g903, e902, hf⟩ := zbind2 hf
  have hq_q1 := hq_nA h e902
  refine kbc (k_nA h e902) ?_
  have h := iH_g h (gle_nA e902)
  refine kb1 (a_X_ck h) ?_
  obtain ⟨x7, z905, e904, hf⟩ := zbind2 hf
  obtain ⟨e904, h⟩ := cs_X1_isFranchisee E h e904
  refine kbc e904 ?_
  obtain ⟨_, e907, hf⟩ := zbind hf
  refine kb1 e907 ?_
  obtain ⟨g909, e908, hf⟩ := zbind hf
  refine kb1 ((r_sI hq_q1 _ _ _).trans (congrArg (Option.map (cH p _)) e908)) ?_
  have h := iH_g h (gle_sI e908)
  obtain ⟨x13, z911, e910, hf⟩ := zbind2 hf
  obtain ⟨e910, h⟩ := cs_X1_requireIndex E h hq_q1 e910
  refine kbc e910 ?_
  rcases x13 with x14 | q15
  · have hf := zinl hf
    refine kel0_l ?_
    obtain ⟨q16, g914, e913, hf⟩ := zbind2 hf
    have hq_q16 := hq_nA h e913
    refine kbc (k_nA h e913) ?_
    have h := iH_g h (gle_nA e913)
    refine kbc (b_inRange _ _ _ _ _) ?_
    obtain ⟨_, e916, hf⟩ := zbind hf
    refine kb1 e916 ?_
    obtain ⟨g918, e917, hf⟩ := zbind hf
    refine kb1 ((r_sI hq_q16 _ _ _).trans (congrArg (Option.map (cH p _)) e917)) ?_
    have h := iH_g h (gle_sI e917)
    obtain ⟨x27, z920, e919, hf⟩ := zbind2 hf
    obtain ⟨e919, h⟩ := cs_X1_requireArguments E h hq_q16 e919
    refine kbc e919 ?_
    rcases x27 with x28 | q29
    · have hf := zinl hf
      refine kel0_l ?_
      exact cs_X1_coverage_l37 E E.1 h hf
    · have hf := zinr hf
      refine kel0_r ?_
      cases hf
      exact ⟨rfl, h⟩
  · have hf := zinr hf
    refine kel0_r ?_
    cases hf
    exact ⟨rfl, h⟩
def c_X1_coverage (E : zE) (N : iN) (p1 : Int32) (p2 : Int32) (s : cT) (g : zH) : Option ((Int32 ⊕ (Nat × Nat)) × (cT × zH)) :=
  c_X1_coverage_b0 E N p1 p2 s g
theorem cs_X1_coverage (E : zE) {s : cT} {g : zH} (h : iH p s g N) {p1 : Int32} {p2 : Int32} (hf : c_X1_coverage E N p1 p2 s g = some (r, (s9, g9))) : f_X1_coverage E (p.1 1) p1 p2 (cH p s g) = some (r, cH p s9 g9) ∧ iH p s9 g9 N := by
  unfold c_X1_coverage at hf
  unfold f_X1_coverage
  exact cs_X1_coverage_b0 E h hf
end
section
variable {p : cP} {N : iN} {r : (Int32 ⊕ (Nat × Nat))} {s9 : cT} {g9 : zH}
def c_X1_rivalCells_b100 (E : zE) (N : iN) (k46 : Int32 → Int32 → Int32 → Int32 → cT → zH → Option ((Int32 ⊕ (Nat × Nat)) × (cT × zH))) (p1 : Int32) (p2 : Int32) (p4 : Int32) (s0 : Int32) (s1 : Int32) (s : cT) (g : zH) : Option ((Int32 ⊕ (Nat × Nat)) × (cT × zH)) :=
  k46 p1 p2 (s0 + s1) (p4 + 1) s g
theorem cs_X1_rivalCells_b100 (E : zE) {K46 : Nat → Int32 → Int32 → Int32 → Int32 → zH → Option ((Int32 ⊕ (Nat × Nat)) × zH)} {k46 : Int32 → Int32 → Int32 → Int32 → cT → zH → Option ((Int32 ⊕ (Nat × Nat)) × (cT × zH))} (hk46 : ∀ {s : cT} {g : zH} (h : iH p s g N) {p1 : Int32} {p2 : Int32} {p3 : Int32} {p4 : Int32}, k46 p1 p2 p3 p4 s g = some (r, (s9, g9)) → K46 (p.1 1) p1 p2 p3 p4 (cH p s g) = some (r, cH p s9 g9) ∧ iH p s9 g9 N) {s : cT} {g : zH} (h : iH p s g N) {p1 : Int32} {p2 : Int32} {p4 : Int32} {s0 : Int32} {s1 : Int32} (hf : c_X1_rivalCells_b100 E N k46 p1 p2 p4 s0 s1 s g = some (r, (s9, g9))) : f_X1_rivalCells_b100 E K46 (p.1 1) p1 p2 p4 s0 s1 (cH p s g) = some (r, cH p s9 g9) ∧ iH p s9 g9 N := by
  unfold c_X1_rivalCells_b100 at hf
  unfold f_X1_rivalCells_b100
  exact hk46 h hf
def c_X1_rivalCells_b99 (E : zE) (N : iN) (k46 : Int32 → Int32 → Int32 → Int32 → cT → zH → Option ((Int32 ⊕ (Nat × Nat)) × (cT × zH))) (p1 : Int32) (p2 : Int32) (p4 : Int32) (s0 : Int32) (s : cT) (g : zH) : Option ((Int32 ⊕ (Nat × Nat)) × (cT × zH)) :=
  c_X1_rivalCells_b100 E N k46 p1 p2 p4 s0 (0 : Int32) s g
theorem cs_X1_rivalCells_b99 (E : zE) {K46 : Nat → Int32 → Int32 → Int32 → Int32 → zH → Option ((Int32 ⊕ (Nat × Nat)) × zH)} {k46 : Int32 → Int32 → Int32 → Int32 → cT → zH → Option ((Int32 ⊕ (Nat × Nat)) × (cT × zH))} (hk46 : ∀ {s : cT} {g : zH} (h : iH p s g N) {p1 : Int32} {p2 : Int32} {p3 : Int32} {p4 : Int32}, k46 p1 p2 p3 p4 s g = some (r, (s9, g9)) → K46 (p.1 1) p1 p2 p3 p4 (cH p s g) = some (r, cH p s9 g9) ∧ iH p s9 g9 N) {s : cT} {g : zH} (h : iH p s g N) {p1 : Int32} {p2 : Int32} {p4 : Int32} {s0 : Int32} (hf : c_X1_rivalCells_b99 E N k46 p1 p2 p4 s0 s g = some (r, (s9, g9))) : f_X1_rivalCells_b99 E K46 (p.1 1) p1 p2 p4 s0 (cH p s g) = some (r, cH p s9 g9) ∧ iH p s9 g9 N := by
  unfold c_X1_rivalCells_b99 at hf
  unfold f_X1_rivalCells_b99
  exact cs_X1_rivalCells_b100 E hk46 h hf
def c_X1_rivalCells_l46 (E : zE) (N : iN) : Nat → Int32 → Int32 → Int32 → Int32 → cT → zH → Option ((Int32 ⊕ (Nat × Nat)) × (cT × zH))
  | 0, _, _, _, _, _, _ => none
  | n + 1, p1, p2, p3, p4, s, g =>
    if (900 : Int32) ≤ p4 then (
      some (.inl p3, (s, g))
    ) else (
      (cdI s (N.1 + 16) 900 p4).bind fun x8 =>
      if x8 = p1 then (
        bnd2 (c_X4_nearest E N p4 p2 s g) fun x16 z927 =>
        bnd2 (c_X4_nearest E N p4 p1 z927.1 z927.2) fun x22 z930 =>
        if x22 ≤ x16 then (
          c_X1_rivalCells_b99 E N (c_X1_rivalCells_l46 E N n) p1 p2 p4 p3 z930.1 z930.2
        ) else (
          c_X1_rivalCells_b100 E N (c_X1_rivalCells_l46 E N n) p1 p2 p4 p3 (1 : Int32) z930.1 z930.2
        )
      ) else (
        c_X1_rivalCells_b99 E N (c_X1_rivalCells_l46 E N n) p1 p2 p4 p3 s g
      )
    )
theorem cs_X1_rivalCells_l46 (E : zE) : ∀ (n : Nat) {s : cT} {g : zH} (h : iH p s g N) {p1 : Int32} {p2 : Int32} {p3 : Int32} {p4 : Int32}, c_X1_rivalCells_l46 E N n p1 p2 p3 p4 s g = some (r, (s9, g9)) → f_X1_rivalCells_l46 E n (p.1 1) p1 p2 p3 p4 (cH p s g) = some (r, cH p s9 g9) ∧ iH p s9 g9 N := by
  intro n
  induction n with
  | zero =>
    intro s g h p1 p2 p3 p4 hf
    cases hf
  | succ n ih =>
    intro s g h p1 p2 p3 p4 hf
    unfold c_X1_rivalCells_l46 at hf
    unfold f_X1_rivalCells_l46
    by_cases c922 : (900 : Int32) ≤ p4
    · have hf := zif_t c922 hf
      refine kif_t c922 ?_
      cases hf
      exact ⟨rfl, h⟩
    · have hf := zif_f c922 hf
      refine kif_f c922 ?_
      refine kb1 (a_X_R1 h) ?_
      refine kb1 (a_Bk_R2 h) ?_
      refine kb1 (a_Gr_R0 h) ?_
      obtain ⟨x8, e923, hf⟩ := zbind hf
      obtain ⟨hj924, e923⟩ := cdI_spec e923
      refine kb1 ((a_own_d h hj924).trans (congrArg some e923)) ?_
      by_cases c925 : x8 = p1
      · have hf := zif_t c925 hf
        refine kif_t c925 ?_
        refine kb1 (a_X_R1 h) ?_
        refine kb1 (a_Bk_ck h) ?_
        obtain ⟨x16, z927, e926, hf⟩ := zbind2 hf
        obtain ⟨e926, h⟩ := cs_X4_nearest E h e926
        refine kbc e926 ?_
        refine kb1 (a_X_R1 h) ?_
        refine kb1 (a_Bk_ck h) ?_
        obtain ⟨x22, z930, e929, hf⟩ := zbind2 hf
        obtain ⟨e929, h⟩ := cs_X4_nearest E h e929
        refine kbc e929 ?_
        by_cases c932 : x22 ≤ x16
        · have hf := zif_t c932 hf
          refine kif_t c932 ?_
          exact cs_X1_rivalCells_b99 E ih h hf
        · have hf := zif_f c932 hf
          refine kif_f c932 ?_
          exact cs_X1_rivalCells_b100 E ih h hf
      · have hf := zif_f c925 hf
        refine kif_f c925 ?_
        exact cs_X1_rivalCells_b99 E ih h hf
def c_X1_rivalCells_b37 (E : zE) (N : iN) (p1 : Int32) (p2 : Int32) (s0 : Nat) (s1 : Nat) (s2 : Int32) (s3 : Int32) (s : cT) (g : zH) : Option ((Int32 ⊕ (Nat × Nat)) × (cT × zH)) :=
  (zgd .boolean s3).bind fun _ =>
  (sI g s1 3 s2 s3).bind fun g935 =>
  bnd2 (c_X1_requireArguments E N s0 s g935) fun x6 z937 =>
  Sum.elim (fun x7 => (
    c_X1_rivalCells_l46 E N E.1 p1 p2 (0 : Int32) (0 : Int32) z937.1 z937.2
  )) (fun q8 => (
    some (.inr q8, (z937.1, z937.2))
  )) x6
theorem cs_X1_rivalCells_b37 (E : zE) {s : cT} {g : zH} (h : iH p s g N) {p1 : Int32} {p2 : Int32} {s0 : Nat} {s1 : Nat} {s2 : Int32} {s3 : Int32} (hq_s0 : p.2 s0 = none) (hq_s1 : p.2 s1 = none) (hf : c_X1_rivalCells_b37 E N p1 p2 s0 s1 s2 s3 s g = some (r, (s9, g9))) : f_X1_rivalCells_b37 E (p.1 1) p1 p2 s0 s1 s2 s3 (cH p s g) = some (r, cH p s9 g9) ∧ iH p s9 g9 N := by
  unfold c_X1_rivalCells_b37 at hf
  unfold f_X1_rivalCells_b37
  obtain ⟨_, e933, hf⟩ := zbind hf
  refine kb1 e933 ?_
  obtain ⟨g935, e934, hf⟩ := zbind hf
  refine kb1 ((r_sI hq_s1 _ _ _).trans (congrArg (Option.map (cH p _)) e934)) ?_
  have h := iH_g h (gle_sI e934)
  obtain ⟨x6, z937, e936, hf⟩ := zbind2 hf
  obtain ⟨e936, h⟩ := cs_X1_requireArguments E h hq_s0 e936
  refine kbc e936 ?_
  rcases x6 with x7 | q8
  · have hf := zinl hf
    refine kel0_l ?_
    exact cs_X1_rivalCells_l46 E E.1 h hf
  · have hf := zinr hf
    refine kel0_r ?_
    cases hf
    exact ⟨rfl, h⟩
def c_X1_rivalCells_b0 (E : zE) (N : iN) (p1 : Int32) (p2 : Int32) (s : cT) (g : zH) : Option ((Int32 ⊕ (Nat × Nat)) × (cT × zH)) :=
  bnd2 (nA g 3 (2 : Int32) (.inl fun _ => 0)) fun q1 g940 =>
  bnd2 (c_X1_isFranchisee E N p1 s g940) fun x7 z942 =>
  (zgd .boolean x7).bind fun _ =>
  (sI z942.2 q1 3 (0 : Int32) x7).bind fun g946 =>
  bnd2 (c_X1_isFranchisee E N p2 z942.1 g946) fun x14 z948 =>
  (zgd .boolean x14).bind fun _ =>
  (sI z948.2 q1 3 (1 : Int32) x14).bind fun g952 =>
  bnd2 (c_X1_requireIndex E N q1 z948.1 g952) fun x20 z954 =>
  Sum.elim (fun x21 => (
    bnd2 (nA z954.2 3 (1 : Int32) (.inl fun _ => 0)) fun q23 g957 =>
    if p1 = p2 then (
      c_X1_rivalCells_b37 E N p1 p2 q23 q23 (0 : Int32) (0 : Int32) z954.1 g957
    ) else (
      c_X1_rivalCells_b37 E N p1 p2 q23 q23 (0 : Int32) (1 : Int32) z954.1 g957
    )
  )) (fun q22 => (
    some (.inr q22, (z954.1, z954.2))
  )) x20
theorem cs_X1_rivalCells_b0 (E : zE) {s : cT} {g : zH} (h : iH p s g N) {p1 : Int32} {p2 : Int32} (hf : c_X1_rivalCells_b0 E N p1 p2 s g = some (r, (s9, g9))) : f_X1_rivalCells_b0 E (p.1 1) p1 p2 (cH p s g) = some (r, cH p s9 g9) ∧ iH p s9 g9 N := by
  unfold c_X1_rivalCells_b0 at hf
  unfold f_X1_rivalCells_b0
  obtain ⟨q1, g940, e939, hf⟩ := zbind2 hf
  have hq_q1 := hq_nA h e939
  refine kbc (k_nA h e939) ?_
  have h := iH_g h (gle_nA e939)
  refine kb1 (a_X_ck h) ?_
  obtain ⟨x7, z942, e941, hf⟩ := zbind2 hf
  obtain ⟨e941, h⟩ := cs_X1_isFranchisee E h e941
  refine kbc e941 ?_
  obtain ⟨_, e944, hf⟩ := zbind hf
  refine kb1 e944 ?_
  obtain ⟨g946, e945, hf⟩ := zbind hf
  refine kb1 ((r_sI hq_q1 _ _ _).trans (congrArg (Option.map (cH p _)) e945)) ?_
  have h := iH_g h (gle_sI e945)
  refine kb1 (a_X_ck h) ?_
  obtain ⟨x14, z948, e947, hf⟩ := zbind2 hf
  obtain ⟨e947, h⟩ := cs_X1_isFranchisee E h e947
  refine kbc e947 ?_
  obtain ⟨_, e950, hf⟩ := zbind hf
  refine kb1 e950 ?_
  obtain ⟨g952, e951, hf⟩ := zbind hf
  refine kb1 ((r_sI hq_q1 _ _ _).trans (congrArg (Option.map (cH p _)) e951)) ?_
  have h := iH_g h (gle_sI e951)
  obtain ⟨x20, z954, e953, hf⟩ := zbind2 hf
  obtain ⟨e953, h⟩ := cs_X1_requireIndex E h hq_q1 e953
  refine kbc e953 ?_
  rcases x20 with x21 | q22
  · have hf := zinl hf
    refine kel0_l ?_
    obtain ⟨q23, g957, e956, hf⟩ := zbind2 hf
    have hq_q23 := hq_nA h e956
    refine kbc (k_nA h e956) ?_
    have h := iH_g h (gle_nA e956)
    by_cases c958 : p1 = p2
    · have hf := zif_t c958 hf
      refine kif_t c958 ?_
      exact cs_X1_rivalCells_b37 E h hq_q23 hq_q23 hf
    · have hf := zif_f c958 hf
      refine kif_f c958 ?_
      exact cs_X1_rivalCells_b37 E h hq_q23 hq_q23 hf
  · have hf := zinr hf
    refine kel0_r ?_
    cases hf
    exact ⟨rfl, h⟩
def c_X1_rivalCells (E : zE) (N : iN) (p1 : Int32) (p2 : Int32) (s : cT) (g : zH) : Option ((Int32 ⊕ (Nat × Nat)) × (cT × zH)) :=
  c_X1_rivalCells_b0 E N p1 p2 s g
theorem cs_X1_rivalCells (E : zE) {s : cT} {g : zH} (h : iH p s g N) {p1 : Int32} {p2 : Int32} (hf : c_X1_rivalCells E N p1 p2 s g = some (r, (s9, g9))) : f_X1_rivalCells E (p.1 1) p1 p2 (cH p s g) = some (r, cH p s9 g9) ∧ iH p s9 g9 N := by
  unfold c_X1_rivalCells at hf
  unfold f_X1_rivalCells
  exact cs_X1_rivalCells_b0 E h hf
end
section
variable {p : cP} {N : iN} {r : Int32} {s9 : cT} {g9 : zH}
def c_X1_difference_b65 (E : zE) (N : iN) (k6 : Int32 → Int32 → Int32 → Int32 → Int32 → cT → zH → Option (Int32 × (cT × zH))) (p1 : Int32) (p2 : Int32) (p3 : Int32) (p4 : Int32) (p5 : Int32) (s : cT) (g : zH) : Option (Int32 × (cT × zH)) :=
  k6 p1 p2 p3 p4 (p5 + 1) s g
theorem cs_X1_difference_b65 (E : zE) {K6 : Nat → Int32 → Int32 → Int32 → Int32 → Int32 → zH → Option (Int32 × zH)} {k6 : Int32 → Int32 → Int32 → Int32 → Int32 → cT → zH → Option (Int32 × (cT × zH))} (hk6 : ∀ {s : cT} {g : zH} (h : iH p s g N) {p1 : Int32} {p2 : Int32} {p3 : Int32} {p4 : Int32} {p5 : Int32}, k6 p1 p2 p3 p4 p5 s g = some (r, (s9, g9)) → K6 (p.1 1) p1 p2 p3 p4 p5 (cH p s g) = some (r, cH p s9 g9) ∧ iH p s9 g9 N) {s : cT} {g : zH} (h : iH p s g N) {p1 : Int32} {p2 : Int32} {p3 : Int32} {p4 : Int32} {p5 : Int32} (hf : c_X1_difference_b65 E N k6 p1 p2 p3 p4 p5 s g = some (r, (s9, g9))) : f_X1_difference_b65 E K6 (p.1 1) p1 p2 p3 p4 p5 (cH p s g) = some (r, cH p s9 g9) ∧ iH p s9 g9 N := by
  unfold c_X1_difference_b65 at hf
  unfold f_X1_difference_b65
  exact hk6 h hf
def c_X1_difference_b62 (E : zE) (N : iN) (k6 : Int32 → Int32 → Int32 → Int32 → Int32 → cT → zH → Option (Int32 × (cT × zH))) (p1 : Int32) (p2 : Int32) (p3 : Int32) (p5 : Int32) (s0 : Int32) (s1 : Int32) (s : cT) (g : zH) : Option (Int32 × (cT × zH)) :=
  c_X1_difference_b65 E N k6 p1 p2 p3 (s0 + s1) p5 s g
theorem cs_X1_difference_b62 (E : zE) {K6 : Nat → Int32 → Int32 → Int32 → Int32 → Int32 → zH → Option (Int32 × zH)} {k6 : Int32 → Int32 → Int32 → Int32 → Int32 → cT → zH → Option (Int32 × (cT × zH))} (hk6 : ∀ {s : cT} {g : zH} (h : iH p s g N) {p1 : Int32} {p2 : Int32} {p3 : Int32} {p4 : Int32} {p5 : Int32}, k6 p1 p2 p3 p4 p5 s g = some (r, (s9, g9)) → K6 (p.1 1) p1 p2 p3 p4 p5 (cH p s g) = some (r, cH p s9 g9) ∧ iH p s9 g9 N) {s : cT} {g : zH} (h : iH p s g N) {p1 : Int32} {p2 : Int32} {p3 : Int32} {p5 : Int32} {s0 : Int32} {s1 : Int32} (hf : c_X1_difference_b62 E N k6 p1 p2 p3 p5 s0 s1 s g = some (r, (s9, g9))) : f_X1_difference_b62 E K6 (p.1 1) p1 p2 p3 p5 s0 s1 (cH p s g) = some (r, cH p s9 g9) ∧ iH p s9 g9 N := by
  unfold c_X1_difference_b62 at hf
  unfold f_X1_difference_b62
  exact cs_X1_difference_b65 E hk6 h hf
def c_X1_difference_b53 (E : zE) (N : iN) (k6 : Int32 → Int32 → Int32 → Int32 → Int32 → cT → zH → Option (Int32 × (cT × zH))) (p1 : Int32) (p2 : Int32) (p3 : Int32) (p5 : Int32) (s0 : Int32) (s1 : Int32) (s : cT) (g : zH) : Option (Int32 × (cT × zH)) :=
  if p2 ≤ s1 then (
    c_X1_difference_b62 E N k6 p1 p2 p3 p5 s0 (-1 : Int32) s g
  ) else (
    c_X1_difference_b62 E N k6 p1 p2 p3 p5 s0 (1 : Int32) s g
  )
theorem cs_X1_difference_b53 (E : zE) {K6 : Nat → Int32 → Int32 → Int32 → Int32 → Int32 → zH → Option (Int32 × zH)} {k6 : Int32 → Int32 → Int32 → Int32 → Int32 → cT → zH → Option (Int32 × (cT × zH))} (hk6 : ∀ {s : cT} {g : zH} (h : iH p s g N) {p1 : Int32} {p2 : Int32} {p3 : Int32} {p4 : Int32} {p5 : Int32}, k6 p1 p2 p3 p4 p5 s g = some (r, (s9, g9)) → K6 (p.1 1) p1 p2 p3 p4 p5 (cH p s g) = some (r, cH p s9 g9) ∧ iH p s9 g9 N) {s : cT} {g : zH} (h : iH p s g N) {p1 : Int32} {p2 : Int32} {p3 : Int32} {p5 : Int32} {s0 : Int32} {s1 : Int32} (hf : c_X1_difference_b53 E N k6 p1 p2 p3 p5 s0 s1 s g = some (r, (s9, g9))) : f_X1_difference_b53 E K6 (p.1 1) p1 p2 p3 p5 s0 s1 (cH p s g) = some (r, cH p s9 g9) ∧ iH p s9 g9 N := by
  unfold c_X1_difference_b53 at hf
  unfold f_X1_difference_b53
  by_cases c959 : p2 ≤ s1
  · have hf := zif_t c959 hf
    refine kif_t c959 ?_
    exact cs_X1_difference_b62 E hk6 h hf
  · have hf := zif_f c959 hf
    refine kif_f c959 ?_
    exact cs_X1_difference_b62 E hk6 h hf
def c_X1_difference_l6 (E : zE) (N : iN) : Nat → Int32 → Int32 → Int32 → Int32 → Int32 → cT → zH → Option (Int32 × (cT × zH))
  | 0, _, _, _, _, _, _, _ => none
  | n + 1, p1, p2, p3, p4, p5, s, g =>
    if (900 : Int32) ≤ p5 then (
      bnd2 (c_J12_abs E N p4 s g) fun x4 z962 =>
      some (x4, (z962.1, z962.2))
    ) else (
      (cdI s (N.1 + 16) 900 p5).bind fun x11 =>
      if x11 = p1 then (
        if p3 = 0 then (
          bnd2 (c_X1_row E N p5 s g) fun x17 z969 =>
          c_X1_difference_b53 E N (c_X1_difference_l6 E N n) p1 p2 p3 p5 p4 x17 z969.1 z969.2
        ) else (
          bnd2 (c_X1_column E N p5 s g) fun x20 z972 =>
          c_X1_difference_b53 E N (c_X1_difference_l6 E N n) p1 p2 p3 p5 p4 x20 z972.1 z972.2
        )
      ) else (
        c_X1_difference_b65 E N (c_X1_difference_l6 E N n) p1 p2 p3 p4 p5 s g
      )
    )
theorem cs_X1_difference_l6 (E : zE) : ∀ (n : Nat) {s : cT} {g : zH} (h : iH p s g N) {p1 : Int32} {p2 : Int32} {p3 : Int32} {p4 : Int32} {p5 : Int32}, c_X1_difference_l6 E N n p1 p2 p3 p4 p5 s g = some (r, (s9, g9)) → f_X1_difference_l6 E n (p.1 1) p1 p2 p3 p4 p5 (cH p s g) = some (r, cH p s9 g9) ∧ iH p s9 g9 N := by
  intro n
  induction n with
  | zero =>
    intro s g h p1 p2 p3 p4 p5 hf
    cases hf
  | succ n ih =>
    intro s g h p1 p2 p3 p4 p5 hf
    unfold c_X1_difference_l6 at hf
    unfold f_X1_difference_l6
    by_cases c960 : (900 : Int32) ≤ p5
    · have hf := zif_t c960 hf
      refine kif_t c960 ?_
      obtain ⟨x4, z962, e961, hf⟩ := zbind2 hf
      obtain ⟨e961, h⟩ := cs_J12_abs E h e961
      refine kbc e961 ?_
      cases hf
      exact ⟨rfl, h⟩
    · have hf := zif_f c960 hf
      refine kif_f c960 ?_
      refine kb1 (a_X_R1 h) ?_
      refine kb1 (a_Bk_R2 h) ?_
      refine kb1 (a_Gr_R0 h) ?_
      obtain ⟨x11, e964, hf⟩ := zbind hf
      obtain ⟨hj965, e964⟩ := cdI_spec e964
      refine kb1 ((a_own_d h hj965).trans (congrArg some e964)) ?_
      by_cases c966 : x11 = p1
      · have hf := zif_t c966 hf
        refine kif_t c966 ?_
        by_cases c967 : p3 = 0
        · have hf := zif_t c967 hf
          refine kif_t c967 ?_
          obtain ⟨x17, z969, e968, hf⟩ := zbind2 hf
          obtain ⟨e968, h⟩ := cs_X1_row E h e968
          refine kbc e968 ?_
          exact cs_X1_difference_b53 E ih h hf
        · have hf := zif_f c967 hf
          refine kif_f c967 ?_
          obtain ⟨x20, z972, e971, hf⟩ := zbind2 hf
          obtain ⟨e971, h⟩ := cs_X1_column E h e971
          refine kbc e971 ?_
          exact cs_X1_difference_b53 E ih h hf
      · have hf := zif_f c966 hf
        refine kif_f c966 ?_
        exact cs_X1_difference_b65 E ih h hf
def c_X1_difference_b0 (E : zE) (N : iN) (p1 : Int32) (p2 : Int32) (p3 : Int32) (s : cT) (g : zH) : Option (Int32 × (cT × zH)) :=
  c_X1_difference_l6 E N E.1 p1 p2 p3 (0 : Int32) (0 : Int32) s g
theorem cs_X1_difference_b0 (E : zE) {s : cT} {g : zH} (h : iH p s g N) {p1 : Int32} {p2 : Int32} {p3 : Int32} (hf : c_X1_difference_b0 E N p1 p2 p3 s g = some (r, (s9, g9))) : f_X1_difference_b0 E (p.1 1) p1 p2 p3 (cH p s g) = some (r, cH p s9 g9) ∧ iH p s9 g9 N := by
  unfold c_X1_difference_b0 at hf
  unfold f_X1_difference_b0
  exact cs_X1_difference_l6 E E.1 h hf
def c_X1_difference (E : zE) (N : iN) (p1 : Int32) (p2 : Int32) (p3 : Int32) (s : cT) (g : zH) : Option (Int32 × (cT × zH)) :=
  c_X1_difference_b0 E N p1 p2 p3 s g
theorem cs_X1_difference (E : zE) {s : cT} {g : zH} (h : iH p s g N) {p1 : Int32} {p2 : Int32} {p3 : Int32} (hf : c_X1_difference E N p1 p2 p3 s g = some (r, (s9, g9))) : f_X1_difference E (p.1 1) p1 p2 p3 (cH p s g) = some (r, cH p s9 g9) ∧ iH p s9 g9 N := by
  unfold c_X1_difference at hf
  unfold f_X1_difference
  exact cs_X1_difference_b0 E h hf
end
section
variable {p : cP} {N : iN} {r : (Int32 ⊕ (Nat × Nat))} {s9 : cT} {g9 : zH}
def c_X1_halvingLine_b88 (E : zE) (N : iN) (k19 : Int32 → Int32 → Int32 → Int32 → cT → zH → Option ((Int32 ⊕ (Nat × Nat)) × (cT × zH))) (p1 : Int32) (p2 : Int32) (p3 : Int32) (p4 : Int32) (s : cT) (g : zH) : Option ((Int32 ⊕ (Nat × Nat)) × (cT × zH)) :=
  k19 p1 p2 p3 (p4 + 1) s g
theorem cs_X1_halvingLine_b88 (E : zE) {K19 : Nat → Int32 → Int32 → Int32 → Int32 → zH → Option ((Int32 ⊕ (Nat × Nat)) × zH)} {k19 : Int32 → Int32 → Int32 → Int32 → cT → zH → Option ((Int32 ⊕ (Nat × Nat)) × (cT × zH))} (hk19 : ∀ {s : cT} {g : zH} (h : iH p s g N) {p1 : Int32} {p2 : Int32} {p3 : Int32} {p4 : Int32}, k19 p1 p2 p3 p4 s g = some (r, (s9, g9)) → K19 (p.1 1) p1 p2 p3 p4 (cH p s g) = some (r, cH p s9 g9) ∧ iH p s9 g9 N) {s : cT} {g : zH} (h : iH p s g N) {p1 : Int32} {p2 : Int32} {p3 : Int32} {p4 : Int32} (hf : c_X1_halvingLine_b88 E N k19 p1 p2 p3 p4 s g = some (r, (s9, g9))) : f_X1_halvingLine_b88 E K19 (p.1 1) p1 p2 p3 p4 (cH p s g) = some (r, cH p s9 g9) ∧ iH p s9 g9 N := by
  unfold c_X1_halvingLine_b88 at hf
  unfold f_X1_halvingLine_b88
  exact hk19 h hf
def c_X1_halvingLine_b84 (E : zE) (N : iN) (k19 : Int32 → Int32 → Int32 → Int32 → cT → zH → Option ((Int32 ⊕ (Nat × Nat)) × (cT × zH))) (p1 : Int32) (p4 : Int32) (p7 : Int32) (s0 : Int32) (s : cT) (g : zH) : Option ((Int32 ⊕ (Nat × Nat)) × (cT × zH)) :=
  c_X1_halvingLine_b88 E N k19 p1 s0 p7 p4 s g
theorem cs_X1_halvingLine_b84 (E : zE) {K19 : Nat → Int32 → Int32 → Int32 → Int32 → zH → Option ((Int32 ⊕ (Nat × Nat)) × zH)} {k19 : Int32 → Int32 → Int32 → Int32 → cT → zH → Option ((Int32 ⊕ (Nat × Nat)) × (cT × zH))} (hk19 : ∀ {s : cT} {g : zH} (h : iH p s g N) {p1 : Int32} {p2 : Int32} {p3 : Int32} {p4 : Int32}, k19 p1 p2 p3 p4 s g = some (r, (s9, g9)) → K19 (p.1 1) p1 p2 p3 p4 (cH p s g) = some (r, cH p s9 g9) ∧ iH p s9 g9 N) {s : cT} {g : zH} (h : iH p s g N) {p1 : Int32} {p4 : Int32} {p7 : Int32} {s0 : Int32} (hf : c_X1_halvingLine_b84 E N k19 p1 p4 p7 s0 s g = some (r, (s9, g9))) : f_X1_halvingLine_b84 E K19 (p.1 1) p1 p4 p7 s0 (cH p s g) = some (r, cH p s9 g9) ∧ iH p s9 g9 N := by
  unfold c_X1_halvingLine_b84 at hf
  unfold f_X1_halvingLine_b84
  exact cs_X1_halvingLine_b88 E hk19 h hf
def c_X1_halvingLine_b38 (E : zE) (N : iN) (k19 : Int32 → Int32 → Int32 → Int32 → cT → zH → Option ((Int32 ⊕ (Nat × Nat)) × (cT × zH))) (p1 : Int32) (p2 : Int32) (p3 : Int32) (p4 : Int32) (s0 : Int32) (s : cT) (g : zH) : Option ((Int32 ⊕ (Nat × Nat)) × (cT × zH)) :=
  bnd2 (c_X1_difference E N p1 ((p4 - p4 / (29 : Int32) * (29 : Int32)) + (1 : Int32)) s0 s g) fun x4 z975 =>
  if x4 < p3 then (
    if s0 = 0 then (
      c_X1_halvingLine_b84 E N k19 p1 p4 x4 ((100 : Int32) + ((p4 - p4 / (29 : Int32) * (29 : Int32)) + (1 : Int32))) z975.1 z975.2
    ) else (
      c_X1_halvingLine_b84 E N k19 p1 p4 x4 ((p4 - p4 / (29 : Int32) * (29 : Int32)) + (1 : Int32)) z975.1 z975.2
    )
  ) else (
    c_X1_halvingLine_b88 E N k19 p1 p2 p3 p4 z975.1 z975.2
  )
theorem cs_X1_halvingLine_b38 (E : zE) {K19 : Nat → Int32 → Int32 → Int32 → Int32 → zH → Option ((Int32 ⊕ (Nat × Nat)) × zH)} {k19 : Int32 → Int32 → Int32 → Int32 → cT → zH → Option ((Int32 ⊕ (Nat × Nat)) × (cT × zH))} (hk19 : ∀ {s : cT} {g : zH} (h : iH p s g N) {p1 : Int32} {p2 : Int32} {p3 : Int32} {p4 : Int32}, k19 p1 p2 p3 p4 s g = some (r, (s9, g9)) → K19 (p.1 1) p1 p2 p3 p4 (cH p s g) = some (r, cH p s9 g9) ∧ iH p s9 g9 N) {s : cT} {g : zH} (h : iH p s g N) {p1 : Int32} {p2 : Int32} {p3 : Int32} {p4 : Int32} {s0 : Int32} (hf : c_X1_halvingLine_b38 E N k19 p1 p2 p3 p4 s0 s g = some (r, (s9, g9))) : f_X1_halvingLine_b38 E K19 (p.1 1) p1 p2 p3 p4 s0 (cH p s g) = some (r, cH p s9 g9) ∧ iH p s9 g9 N := by
  unfold c_X1_halvingLine_b38 at hf
  unfold f_X1_halvingLine_b38
  refine kb1 (a_X_ck h) ?_
  obtain ⟨x4, z975, e974, hf⟩ := zbind2 hf
  obtain ⟨e974, h⟩ := cs_X1_difference E h e974
  refine kbc e974 ?_
  by_cases c977 : x4 < p3
  · have hf := zif_t c977 hf
    refine kif_t c977 ?_
    by_cases c978 : s0 = 0
    · have hf := zif_t c978 hf
      refine kif_t c978 ?_
      exact cs_X1_halvingLine_b84 E hk19 h hf
    · have hf := zif_f c978 hf
      refine kif_f c978 ?_
      exact cs_X1_halvingLine_b84 E hk19 h hf
  · have hf := zif_f c977 hf
    refine kif_f c977 ?_
    exact cs_X1_halvingLine_b88 E hk19 h hf
def c_X1_halvingLine_l19 (E : zE) (N : iN) : Nat → Int32 → Int32 → Int32 → Int32 → cT → zH → Option ((Int32 ⊕ (Nat × Nat)) × (cT × zH))
  | 0, _, _, _, _, _, _ => none
  | n + 1, p1, p2, p3, p4, s, g =>
    if (58 : Int32) ≤ p4 then (
      some (.inl p2, (s, g))
    ) else (
      if (29 : Int32) ≤ p4 then (
        c_X1_halvingLine_b38 E N (c_X1_halvingLine_l19 E N n) p1 p2 p3 p4 (0 : Int32) s g
      ) else (
        c_X1_halvingLine_b38 E N (c_X1_halvingLine_l19 E N n) p1 p2 p3 p4 (1 : Int32) s g
      )
    )
theorem cs_X1_halvingLine_l19 (E : zE) : ∀ (n : Nat) {s : cT} {g : zH} (h : iH p s g N) {p1 : Int32} {p2 : Int32} {p3 : Int32} {p4 : Int32}, c_X1_halvingLine_l19 E N n p1 p2 p3 p4 s g = some (r, (s9, g9)) → f_X1_halvingLine_l19 E n (p.1 1) p1 p2 p3 p4 (cH p s g) = some (r, cH p s9 g9) ∧ iH p s9 g9 N := by
  intro n
  induction n with
  | zero =>
    intro s g h p1 p2 p3 p4 hf
    cases hf
  | succ n ih =>
    intro s g h p1 p2 p3 p4 hf
    unfold c_X1_halvingLine_l19 at hf
    unfold f_X1_halvingLine_l19
    by_cases c979 : (58 : Int32) ≤ p4
    · have hf := zif_t c979 hf
      refine kif_t c979 ?_
      cases hf
      exact ⟨rfl, h⟩
    · have hf := zif_f c979 hf
      refine kif_f c979 ?_
      by_cases c980 : (29 : Int32) ≤ p4
      · have hf := zif_t c980 hf
        refine kif_t c980 ?_
        exact cs_X1_halvingLine_b38 E ih h hf
      · have hf := zif_f c980 hf
        refine kif_f c980 ?_
        exact cs_X1_halvingLine_b38 E ih h hf
def c_X1_halvingLine_b0 (E : zE) (N : iN) (p1 : Int32) (s : cT) (g : zH) : Option ((Int32 ⊕ (Nat × Nat)) × (cT × zH)) :=
  bnd2 (c_X1_area E N p1 s g) fun x4 z982 =>
  Sum.elim (fun x5 => (
    if x5 = 0 then (
      some (.inl (-1 : Int32), (z982.1, z982.2))
    ) else (
      c_X1_halvingLine_l19 E N E.1 p1 (-1 : Int32) (901 : Int32) (0 : Int32) z982.1 z982.2
    )
  )) (fun q6 => (
    some (.inr q6, (z982.1, z982.2))
  )) x4
theorem cs_X1_halvingLine_b0 (E : zE) {s : cT} {g : zH} (h : iH p s g N) {p1 : Int32} (hf : c_X1_halvingLine_b0 E N p1 s g = some (r, (s9, g9))) : f_X1_halvingLine_b0 E (p.1 1) p1 (cH p s g) = some (r, cH p s9 g9) ∧ iH p s9 g9 N := by
  unfold c_X1_halvingLine_b0 at hf
  unfold f_X1_halvingLine_b0
  refine kb1 (a_X_ck h) ?_
  obtain ⟨x4, z982, e981, hf⟩ := zbind2 hf
  obtain ⟨e981, h⟩ := cs_X1_area E h e981
  refine kbc e981 ?_
  rcases x4 with x5 | q6
  · have hf := zinl hf
    refine kel0_l ?_
    by_cases c984 : x5 = 0
    · have hf := zif_t c984 hf
      refine kif_t c984 ?_
      cases hf
      exact ⟨rfl, h⟩
    · have hf := zif_f c984 hf
      refine kif_f c984 ?_
      exact cs_X1_halvingLine_l19 E E.1 h hf
  · have hf := zinr hf
    refine kel0_r ?_
    cases hf
    exact ⟨rfl, h⟩
def c_X1_halvingLine (E : zE) (N : iN) (p1 : Int32) (s : cT) (g : zH) : Option ((Int32 ⊕ (Nat × Nat)) × (cT × zH)) :=
  c_X1_halvingLine_b0 E N p1 s g
theorem cs_X1_halvingLine (E : zE) {s : cT} {g : zH} (h : iH p s g N) {p1 : Int32} (hf : c_X1_halvingLine E N p1 s g = some (r, (s9, g9))) : f_X1_halvingLine E (p.1 1) p1 (cH p s g) = some (r, cH p s9 g9) ∧ iH p s9 g9 N := by
  unfold c_X1_halvingLine at hf
  unfold f_X1_halvingLine
  exact cs_X1_halvingLine_b0 E h hf
end
section
variable {p : cP} {N : iN} {r : Int32} {s9 : cT} {g9 : zH}
def c_X1_isPlan_b0 (E : zE) (N : iN) (p1 : Int32) (s : cT) (g : zH) : Option (Int32 × (cT × zH)) :=
  (zgd .boolean (if (0 : Int64) ≤ (p1.toInt64) ∧ (p1.toInt64) ≤ (((Int32.ofNat N.2.2.2.1) - (1 : Int32)).toInt64) then (1 : Int32) else 0)).bind fun _ =>
  some ((if (0 : Int64) ≤ (p1.toInt64) ∧ (p1.toInt64) ≤ (((Int32.ofNat N.2.2.2.1) - (1 : Int32)).toInt64) then (1 : Int32) else 0), (s, g))
theorem cs_X1_isPlan_b0 (E : zE) {s : cT} {g : zH} (h : iH p s g N) {p1 : Int32} (hf : c_X1_isPlan_b0 E N p1 s g = some (r, (s9, g9))) : f_X1_isPlan_b0 E (p.1 1) p1 (cH p s g) = some (r, cH p s9 g9) ∧ iH p s9 g9 N := by
  unfold c_X1_isPlan_b0 at hf
  unfold f_X1_isPlan_b0
  refine kb1 (a_X_R0 h) ?_
  refine kb1 (a_Ru_R0 h) ?_
  refine kb1 (a_PL_ck h) ?_
  refine kbc (a_PL_n h E) ?_
  refine kbc (b_inRange _ _ _ _ _) ?_
  obtain ⟨_, e987, hf⟩ := zbind hf
  refine kb1 e987 ?_
  cases hf
  exact ⟨rfl, h⟩
def c_X1_isPlan (E : zE) (N : iN) (p1 : Int32) (s : cT) (g : zH) : Option (Int32 × (cT × zH)) :=
  c_X1_isPlan_b0 E N p1 s g
theorem cs_X1_isPlan (E : zE) {s : cT} {g : zH} (h : iH p s g N) {p1 : Int32} (hf : c_X1_isPlan E N p1 s g = some (r, (s9, g9))) : f_X1_isPlan E (p.1 1) p1 (cH p s g) = some (r, cH p s9 g9) ∧ iH p s9 g9 N := by
  unfold c_X1_isPlan at hf
  unfold f_X1_isPlan
  exact cs_X1_isPlan_b0 E h hf
end
section
variable {p : cP} {N : iN} {r : (Int64 ⊕ (Nat × Nat))} {s9 : cT} {g9 : zH}
def c_X1_royalty_b0 (E : zE) (N : iN) (p1 : Int32) (p2 : Int64) (s : cT) (g : zH) : Option ((Int64 ⊕ (Nat × Nat)) × (cT × zH)) :=
  bnd2 (nA g 3 (1 : Int32) (.inl fun _ => 0)) fun q1 g989 =>
  bnd2 (c_X1_isPlan E N p1 s g989) fun x7 z991 =>
  (zgd .boolean x7).bind fun _ =>
  (sI z991.2 q1 3 (0 : Int32) x7).bind fun g995 =>
  bnd2 (c_X1_requireIndex E N q1 z991.1 g995) fun x13 z997 =>
  Sum.elim (fun x14 => (
    bnd2 (nA z997.2 3 (1 : Int32) (.inl fun _ => 0)) fun q16 g1000 =>
    (zgd .boolean (if (0 : Int64) ≤ p2 ∧ p2 ≤ (1000000000 : Int64) then (1 : Int32) else 0)).bind fun _ =>
    (sI g1000 q16 3 (0 : Int32) (if (0 : Int64) ≤ p2 ∧ p2 ≤ (1000000000 : Int64) then (1 : Int32) else 0)).bind fun g1004 =>
    bnd2 (c_X1_requireArguments E N q16 z997.1 g1004) fun x27 z1006 =>
    Sum.elim (fun x28 => (
      (cGet N.2.2.2.1 p1).bind fun i1009 =>
      bnd2 (c_X9_royalty E N i1009 p2 z1006.1 z1006.2) fun x42 z1011 =>
      some (.inl x42, (z1011.1, z1011.2))
    )) (fun q29 => (
      some (.inr q29, (z1006.1, z1006.2))
    )) x27
  )) (fun q15 => (
    some (.inr q15, (z997.1, z997.2))
  )) x13
theorem cs_X1_royalty_b0 (E : zE) {s : cT} {g : zH} (h : iH p s g N) {p1 : Int32} {p2 : Int64} (hf : c_X1_royalty_b0 E N p1 p2 s g = some (r, (s9, g9))) : f_X1_royalty_b0 E (p.1 1) p1 p2 (cH p s g) = some (r, cH p s9 g9) ∧ iH p s9 g9 N := by
  unfold c_X1_royalty_b0 at hf
  unfold f_X1_royalty_b0
  obtain ⟨q1, g989, e988, hf⟩ := zbind2 hf
  have hq_q1 := hq_nA h e988
  refine kbc (k_nA h e988) ?_
  have h := iH_g h (gle_nA e988)
  refine kb1 (a_X_ck h) ?_
  obtain ⟨x7, z991, e990, hf⟩ := zbind2 hf
  obtain ⟨e990, h⟩ := cs_X1_isPlan E h e990
  refine kbc e990 ?_
  obtain ⟨_, e993, hf⟩ := zbind hf
  refine kb1 e993 ?_
  obtain ⟨g995, e994, hf⟩ := zbind hf
  refine kb1 ((r_sI hq_q1 _ _ _).trans (congrArg (Option.map (cH p _)) e994)) ?_
  have h := iH_g h (gle_sI e994)
  obtain ⟨x13, z997, e996, hf⟩ := zbind2 hf
  obtain ⟨e996, h⟩ := cs_X1_requireIndex E h hq_q1 e996
  refine kbc e996 ?_
  rcases x13 with x14 | q15
  · have hf := zinl hf
    refine kel0_l ?_
    obtain ⟨q16, g1000, e999, hf⟩ := zbind2 hf
    have hq_q16 := hq_nA h e999
    refine kbc (k_nA h e999) ?_
    have h := iH_g h (gle_nA e999)
    refine kbc (b_inRange _ _ _ _ _) ?_
    obtain ⟨_, e1002, hf⟩ := zbind hf
    refine kb1 e1002 ?_
    obtain ⟨g1004, e1003, hf⟩ := zbind hf
    refine kb1 ((r_sI hq_q16 _ _ _).trans (congrArg (Option.map (cH p _)) e1003)) ?_
    have h := iH_g h (gle_sI e1003)
    obtain ⟨x27, z1006, e1005, hf⟩ := zbind2 hf
    obtain ⟨e1005, h⟩ := cs_X1_requireArguments E h hq_q16 e1005
    refine kbc e1005 ?_
    rcases x27 with x28 | q29
    · have hf := zinl hf
      refine kel0_l ?_
      refine kb1 (a_X_R0 h) ?_
      refine kb1 (a_Ru_R0 h) ?_
      refine kb1 (a_PL_ck h) ?_
      obtain ⟨i1009, e1008, hf⟩ := zbind hf
      have hi_i1009 := cGet_lt e1008
      refine kbc (a_PL_G h E e1008) ?_
      refine kb1 (a_Pl_ck h hi_i1009) ?_
      refine kb1 (a_Pl_ck h hi_i1009) ?_
      obtain ⟨x42, z1011, e1010, hf⟩ := zbind2 hf
      obtain ⟨e1010, h⟩ := cs_X9_royalty E h hi_i1009 e1010
      refine kbc e1010 ?_
      cases hf
      exact ⟨rfl, h⟩
    · have hf := zinr hf
      refine kel0_r ?_
      cases hf
      exact ⟨rfl, h⟩
  · have hf := zinr hf
    refine kel0_r ?_
    cases hf
    exact ⟨rfl, h⟩
def c_X1_royalty (E : zE) (N : iN) (p1 : Int32) (p2 : Int64) (s : cT) (g : zH) : Option ((Int64 ⊕ (Nat × Nat)) × (cT × zH)) :=
  c_X1_royalty_b0 E N p1 p2 s g
theorem cs_X1_royalty (E : zE) {s : cT} {g : zH} (h : iH p s g N) {p1 : Int32} {p2 : Int64} (hf : c_X1_royalty E N p1 p2 s g = some (r, (s9, g9))) : f_X1_royalty E (p.1 1) p1 p2 (cH p s g) = some (r, cH p s9 g9) ∧ iH p s9 g9 N := by
  unfold c_X1_royalty at hf
  unfold f_X1_royalty
  exact cs_X1_royalty_b0 E h hf
end
section
variable {p : cP} {N : iN} {r : (Int32 ⊕ (Nat × Nat))} {s9 : cT} {g9 : zH}
def c_X1_planOf_b0 (E : zE) (N : iN) (p1 : Int32) (s : cT) (g : zH) : Option ((Int32 ⊕ (Nat × Nat)) × (cT × zH)) :=
  bnd2 (c_X1_franchisee E N p1 s g) fun x4 z1014 =>
  Sum.elim (fun x5 => (
    some (.inl (z1014.1.2.1 (N.1 + 130 + x5) 3), (z1014.1, z1014.2))
  )) (fun q6 => (
    some (.inr q6, (z1014.1, z1014.2))
  )) x4
theorem cs_X1_planOf_b0 (E : zE) {s : cT} {g : zH} (h : iH p s g N) {p1 : Int32} (hf : c_X1_planOf_b0 E N p1 s g = some (r, (s9, g9))) : f_X1_planOf_b0 E (p.1 1) p1 (cH p s g) = some (r, cH p s9 g9) ∧ iH p s9 g9 N := by
  unfold c_X1_planOf_b0 at hf
  unfold f_X1_planOf_b0
  refine kb1 (a_X_ck h) ?_
  obtain ⟨x4, z1014, e1013, hf⟩ := zbind2 hf
  obtain ⟨e1013, h, hr_x4⟩ := cs_X1_franchisee E h e1013
  refine kbc e1013 ?_
  rcases x4 with x5 | q6
  · have hf := zinl hf
    have hi_x5 := hr_x4 _ rfl
    refine kel_l ?_
    refine kb1 (a_Fr_I3 h hi_x5) ?_
    cases hf
    exact ⟨rfl, h⟩
  · have hf := zinr hf
    refine kel_r ?_
    cases hf
    exact ⟨rfl, h⟩
def c_X1_planOf (E : zE) (N : iN) (p1 : Int32) (s : cT) (g : zH) : Option ((Int32 ⊕ (Nat × Nat)) × (cT × zH)) :=
  c_X1_planOf_b0 E N p1 s g
theorem cs_X1_planOf (E : zE) {s : cT} {g : zH} (h : iH p s g N) {p1 : Int32} (hf : c_X1_planOf E N p1 s g = some (r, (s9, g9))) : f_X1_planOf E (p.1 1) p1 (cH p s g) = some (r, cH p s9 g9) ∧ iH p s9 g9 N := by
  unfold c_X1_planOf at hf
  unfold f_X1_planOf
  exact cs_X1_planOf_b0 E h hf
end
section
variable {p : cP} {N : iN} {r : (Int32 ⊕ (Nat × Nat))} {s9 : cT} {g9 : zH}
def c_X1_setPlan_b0 (E : zE) (N : iN) (p1 : Int32) (p2 : Int32) (s : cT) (g : zH) : Option ((Int32 ⊕ (Nat × Nat)) × (cT × zH)) :=
  bnd2 (nA g 3 (2 : Int32) (.inl fun _ => 0)) fun q1 g1017 =>
  bnd2 (c_X1_isFranchisee E N p1 s g1017) fun x7 z1019 =>
  (zgd .boolean x7).bind fun _ =>
  (sI z1019.2 q1 3 (0 : Int32) x7).bind fun g1023 =>
  bnd2 (c_X1_isPlan E N p2 z1019.1 g1023) fun x14 z1025 =>
  (zgd .boolean x14).bind fun _ =>
  (sI z1025.2 q1 3 (1 : Int32) x14).bind fun g1029 =>
  bnd2 (c_X1_requireIndex E N q1 z1025.1 g1029) fun x20 z1031 =>
  Sum.elim (fun x21 => (
    bnd2 (c_X1_franchisee E N p1 z1031.1 z1031.2) fun x26 z1034 =>
    Sum.elim (fun x27 => (
      bnd2 (c_X1_franchisee E N p1 z1034.1 z1034.2) fun x34 z1037 =>
      Sum.elim (fun x35 => (
        some (.inl (z1034.1.2.1 (N.1 + 130 + x27) 3), ((uI z1037.1 (N.1 + 130 + x35) 3 p2), z1037.2))
      )) (fun q36 => (
        some (.inr q36, (z1037.1, z1037.2))
      )) x34
    )) (fun q28 => (
      some (.inr q28, (z1034.1, z1034.2))
    )) x26
  )) (fun q22 => (
    some (.inr q22, (z1031.1, z1031.2))
  )) x20
theorem cs_X1_setPlan_b0 (E : zE) {s : cT} {g : zH} (h : iH p s g N) {p1 : Int32} {p2 : Int32} (hf : c_X1_setPlan_b0 E N p1 p2 s g = some (r, (s9, g9))) : f_X1_setPlan_b0 E (p.1 1) p1 p2 (cH p s g) = some (r, cH p s9 g9) ∧ iH p s9 g9 N := by
  unfold c_X1_setPlan_b0 at hf
  unfold f_X1_setPlan_b0
  obtain ⟨q1, g1017, e1016, hf⟩ := zbind2 hf
  have hq_q1 := hq_nA h e1016
  refine kbc (k_nA h e1016) ?_
  have h := iH_g h (gle_nA e1016)
  refine kb1 (a_X_ck h) ?_
  obtain ⟨x7, z1019, e1018, hf⟩ := zbind2 hf
  obtain ⟨e1018, h⟩ := cs_X1_isFranchisee E h e1018
  refine kbc e1018 ?_
  obtain ⟨_, e1021, hf⟩ := zbind hf
  refine kb1 e1021 ?_
  obtain ⟨g1023, e1022, hf⟩ := zbind hf
  refine kb1 ((r_sI hq_q1 _ _ _).trans (congrArg (Option.map (cH p _)) e1022)) ?_
  have h := iH_g h (gle_sI e1022)
  refine kb1 (a_X_ck h) ?_
  obtain ⟨x14, z1025, e1024, hf⟩ := zbind2 hf
  obtain ⟨e1024, h⟩ := cs_X1_isPlan E h e1024
  refine kbc e1024 ?_
  obtain ⟨_, e1027, hf⟩ := zbind hf
  refine kb1 e1027 ?_
  obtain ⟨g1029, e1028, hf⟩ := zbind hf
  refine kb1 ((r_sI hq_q1 _ _ _).trans (congrArg (Option.map (cH p _)) e1028)) ?_
  have h := iH_g h (gle_sI e1028)
  obtain ⟨x20, z1031, e1030, hf⟩ := zbind2 hf
  obtain ⟨e1030, h⟩ := cs_X1_requireIndex E h hq_q1 e1030
  refine kbc e1030 ?_
  rcases x20 with x21 | q22
  · have hf := zinl hf
    refine kel0_l ?_
    refine kb1 (a_X_ck h) ?_
    obtain ⟨x26, z1034, e1033, hf⟩ := zbind2 hf
    obtain ⟨e1033, h, hr_x26⟩ := cs_X1_franchisee E h e1033
    refine kbc e1033 ?_
    rcases x26 with x27 | q28
    · have hf := zinl hf
      have hi_x27 := hr_x26 _ rfl
      refine kel_l ?_
      refine kb1 (a_Fr_I3 h hi_x27) ?_
      refine kb1 (a_X_ck h) ?_
      obtain ⟨x34, z1037, e1036, hf⟩ := zbind2 hf
      obtain ⟨e1036, h, hr_x34⟩ := cs_X1_franchisee E h e1036
      refine kbc e1036 ?_
      rcases x34 with x35 | q36
      · have hf := zinl hf
        have hi_x35 := hr_x34 _ rfl
        refine kel_l ?_
        refine kb1 (a_Fr_pI3 h hi_x35 _) ?_
        have h := iH_uI h (d := (N.1 + 130 + x35)) (by have := h.2.2.2.2.2; exact ⟨by omega, by omega, by omega, fun _ _ => by omega⟩) 3 p2
        cases hf
        exact ⟨rfl, h⟩
      · have hf := zinr hf
        refine kel_r ?_
        cases hf
        exact ⟨rfl, h⟩
    · have hf := zinr hf
      refine kel_r ?_
      cases hf
      exact ⟨rfl, h⟩
  · have hf := zinr hf
    refine kel0_r ?_
    cases hf
    exact ⟨rfl, h⟩
def c_X1_setPlan (E : zE) (N : iN) (p1 : Int32) (p2 : Int32) (s : cT) (g : zH) : Option ((Int32 ⊕ (Nat × Nat)) × (cT × zH)) :=
  c_X1_setPlan_b0 E N p1 p2 s g
theorem cs_X1_setPlan (E : zE) {s : cT} {g : zH} (h : iH p s g N) {p1 : Int32} {p2 : Int32} (hf : c_X1_setPlan E N p1 p2 s g = some (r, (s9, g9))) : f_X1_setPlan E (p.1 1) p1 p2 (cH p s g) = some (r, cH p s9 g9) ∧ iH p s9 g9 N := by
  unfold c_X1_setPlan at hf
  unfold f_X1_setPlan
  exact cs_X1_setPlan_b0 E h hf
end
section
variable {p : cP} {N : iN} {r : Int64} {s9 : cT} {g9 : zH}
def c_X9_cost_b0 (E : zE) (N : iN) (p0 : Nat) (p1 : Int64) (s : cT) (g : zH) : Option (Int64 × (cT × zH)) :=
  bnd2 (c_X9_royalty E N p0 p1 s g) fun x4 z1040 =>
  bnd2 (c_X16_of E N (40 + p0) p1 z1040.1 z1040.2) fun x10 z1043 =>
  some ((x4 + x10), (z1043.1, z1043.2))
theorem cs_X9_cost_b0 (E : zE) {s : cT} {g : zH} (h : iH p s g N) {p0 : Nat} {p1 : Int64} (hi_p0 : p0 < N.2.2.2.1) (hf : c_X9_cost_b0 E N p0 p1 s g = some (r, (s9, g9))) : f_X9_cost_b0 E (p.1 (30 + p0)) p1 (cH p s g) = some (r, cH p s9 g9) ∧ iH p s9 g9 N := by
  unfold c_X9_cost_b0 at hf
  unfold f_X9_cost_b0
  refine kb1 (a_Pl_ck h hi_p0) ?_
  obtain ⟨x4, z1040, e1039, hf⟩ := zbind2 hf
  obtain ⟨e1039, h⟩ := cs_X9_royalty E h hi_p0 e1039
  refine kbc e1039 ?_
  refine kb1 (a_Pl_R0 h hi_p0) ?_
  refine kb1 (a_Av_ck h hi_p0) ?_
  obtain ⟨x10, z1043, e1042, hf⟩ := zbind2 hf
  obtain ⟨e1042, h⟩ := cs_X16_of E h (a_Av_sh h hi_p0) e1042
  refine kbc e1042 ?_
  cases hf
  exact ⟨rfl, h⟩
def c_X9_cost (E : zE) (N : iN) (p0 : Nat) (p1 : Int64) (s : cT) (g : zH) : Option (Int64 × (cT × zH)) :=
  c_X9_cost_b0 E N p0 p1 s g
theorem cs_X9_cost (E : zE) {s : cT} {g : zH} (h : iH p s g N) {p0 : Nat} {p1 : Int64} (hi_p0 : p0 < N.2.2.2.1) (hf : c_X9_cost E N p0 p1 s g = some (r, (s9, g9))) : f_X9_cost E (p.1 (30 + p0)) p1 (cH p s g) = some (r, cH p s9 g9) ∧ iH p s9 g9 N := by
  unfold c_X9_cost at hf
  unfold f_X9_cost
  exact cs_X9_cost_b0 E h hi_p0 hf
end
section
variable {p : cP} {N : iN} {r : Int32} {s9 : cT} {g9 : zH}
def c_X1_cheapest_b55 (E : zE) (N : iN) (k5 : Int64 → Int32 → Int32 → cT → zH → Option (Int32 × (cT × zH))) (p1 : Int64) (p4 : Int32) (s0 : Int32) (s : cT) (g : zH) : Option (Int32 × (cT × zH)) :=
  k5 p1 s0 (p4 + 1) s g
theorem cs_X1_cheapest_b55 (E : zE) {K5 : Nat → Int64 → Int32 → Int32 → zH → Option (Int32 × zH)} {k5 : Int64 → Int32 → Int32 → cT → zH → Option (Int32 × (cT × zH))} (hk5 : ∀ {s : cT} {g : zH} (h : iH p s g N) {p1 : Int64} {p3 : Int32} {p4 : Int32}, k5 p1 p3 p4 s g = some (r, (s9, g9)) → K5 (p.1 3) p1 p3 p4 (cH p s g) = some (r, cH p s9 g9) ∧ iH p s9 g9 N) {s : cT} {g : zH} (h : iH p s g N) {p1 : Int64} {p4 : Int32} {s0 : Int32} (hf : c_X1_cheapest_b55 E N k5 p1 p4 s0 s g = some (r, (s9, g9))) : f_X1_cheapest_b55 E K5 (p.1 3) p1 p4 s0 (cH p s g) = some (r, cH p s9 g9) ∧ iH p s9 g9 N := by
  unfold c_X1_cheapest_b55 at hf
  unfold f_X1_cheapest_b55
  exact hk5 h hf
def c_X1_cheapest_l5 (E : zE) (N : iN) : Nat → Int64 → Int32 → Int32 → cT → zH → Option (Int32 × (cT × zH))
  | 0, _, _, _, _, _ => none
  | n + 1, p1, p3, p4, s, g =>
    if (Int32.ofNat N.2.2.2.1) ≤ p4 then (
      some (p3, (s, g))
    ) else (
      (cGet N.2.2.2.1 p4).bind fun i1048 =>
      bnd2 (c_X9_cost E N i1048 p1 s g) fun x14 z1050 =>
      (cGet N.2.2.2.1 p3).bind fun i1053 =>
      bnd2 (c_X9_cost E N i1053 p1 z1050.1 z1050.2) fun x23 z1055 =>
      if x23 ≤ x14 then (
        c_X1_cheapest_b55 E N (c_X1_cheapest_l5 E N n) p1 p4 p3 z1055.1 z1055.2
      ) else (
        c_X1_cheapest_b55 E N (c_X1_cheapest_l5 E N n) p1 p4 p4 z1055.1 z1055.2
      )
    )
theorem cs_X1_cheapest_l5 (E : zE) : ∀ (n : Nat) {s : cT} {g : zH} (h : iH p s g N) {p1 : Int64} {p3 : Int32} {p4 : Int32}, c_X1_cheapest_l5 E N n p1 p3 p4 s g = some (r, (s9, g9)) → f_X1_cheapest_l5 E n (p.1 3) p1 p3 p4 (cH p s g) = some (r, cH p s9 g9) ∧ iH p s9 g9 N := by
  intro n
  induction n with
  | zero =>
    intro s g h p1 p3 p4 hf
    cases hf
  | succ n ih =>
    intro s g h p1 p3 p4 hf
    unfold c_X1_cheapest_l5 at hf
    unfold f_X1_cheapest_l5
    refine kb1 (a_PL_ck h) ?_
    refine kbc (a_PL_n h E) ?_
    by_cases c1046 : (Int32.ofNat N.2.2.2.1) ≤ p4
    · have hf := zif_t c1046 hf
      refine kif_t c1046 ?_
      cases hf
      exact ⟨rfl, h⟩
    · have hf := zif_f c1046 hf
      refine kif_f c1046 ?_
      refine kb1 (a_PL_ck h) ?_
      obtain ⟨i1048, e1047, hf⟩ := zbind hf
      have hi_i1048 := cGet_lt e1047
      refine kbc (a_PL_G h E e1047) ?_
      refine kb1 (a_Pl_ck h hi_i1048) ?_
      refine kb1 (a_Pl_ck h hi_i1048) ?_
      obtain ⟨x14, z1050, e1049, hf⟩ := zbind2 hf
      obtain ⟨e1049, h⟩ := cs_X9_cost E h hi_i1048 e1049
      refine kbc e1049 ?_
      refine kb1 (a_PL_ck h) ?_
      obtain ⟨i1053, e1052, hf⟩ := zbind hf
      have hi_i1053 := cGet_lt e1052
      refine kbc (a_PL_G h E e1052) ?_
      refine kb1 (a_Pl_ck h hi_i1053) ?_
      refine kb1 (a_Pl_ck h hi_i1053) ?_
      obtain ⟨x23, z1055, e1054, hf⟩ := zbind2 hf
      obtain ⟨e1054, h⟩ := cs_X9_cost E h hi_i1053 e1054
      refine kbc e1054 ?_
      by_cases c1057 : x23 ≤ x14
      · have hf := zif_t c1057 hf
        refine kif_t c1057 ?_
        exact cs_X1_cheapest_b55 E ih h hf
      · have hf := zif_f c1057 hf
        refine kif_f c1057 ?_
        exact cs_X1_cheapest_b55 E ih h hf
def c_X1_cheapest_b0 (E : zE) (N : iN) (p1 : Int64) (s : cT) (g : zH) : Option (Int32 × (cT × zH)) :=
  c_X1_cheapest_l5 E N E.1 p1 (0 : Int32) (1 : Int32) s g
theorem cs_X1_cheapest_b0 (E : zE) {s : cT} {g : zH} (h : iH p s g N) {p1 : Int64} (hf : c_X1_cheapest_b0 E N p1 s g = some (r, (s9, g9))) : f_X1_cheapest_b0 E (p.1 3) p1 (cH p s g) = some (r, cH p s9 g9) ∧ iH p s9 g9 N := by
  unfold c_X1_cheapest_b0 at hf
  unfold f_X1_cheapest_b0
  exact cs_X1_cheapest_l5 E E.1 h hf
def c_X1_cheapest (E : zE) (N : iN) (p1 : Int64) (s : cT) (g : zH) : Option (Int32 × (cT × zH)) :=
  c_X1_cheapest_b0 E N p1 s g
theorem cs_X1_cheapest (E : zE) {s : cT} {g : zH} (h : iH p s g N) {p1 : Int64} (hf : c_X1_cheapest E N p1 s g = some (r, (s9, g9))) : f_X1_cheapest E (p.1 3) p1 (cH p s g) = some (r, cH p s9 g9) ∧ iH p s9 g9 N := by
  unfold c_X1_cheapest at hf
  unfold f_X1_cheapest
  exact cs_X1_cheapest_b0 E h hf
end
section
variable {p : cP} {N : iN} {r : (Int32 ⊕ (Nat × Nat))} {s9 : cT} {g9 : zH}
def c_X1_cheapestPlan_b0 (E : zE) (N : iN) (p1 : Int32) (s : cT) (g : zH) : Option ((Int32 ⊕ (Nat × Nat)) × (cT × zH)) :=
  bnd2 (nA g 3 (1 : Int32) (.inl fun _ => 0)) fun q1 g1059 =>
  bnd2 (c_X1_isFranchisee E N p1 s g1059) fun x7 z1061 =>
  (zgd .boolean x7).bind fun _ =>
  (sI z1061.2 q1 3 (0 : Int32) x7).bind fun g1065 =>
  bnd2 (c_X1_requireIndex E N q1 z1061.1 g1065) fun x13 z1067 =>
  Sum.elim (fun x14 => (
    bnd2 (c_X4_sales E N p1 (100 : Int32) z1067.1 z1067.2) fun x25 z1070 =>
    bnd2 (c_X1_cheapest E N x25 z1070.1 z1070.2) fun x28 z1073 =>
    some (.inl x28, (z1073.1, z1073.2))
  )) (fun q15 => (
    some (.inr q15, (z1067.1, z1067.2))
  )) x13
theorem cs_X1_cheapestPlan_b0 (E : zE) {s : cT} {g : zH} (h : iH p s g N) {p1 : Int32} (hf : c_X1_cheapestPlan_b0 E N p1 s g = some (r, (s9, g9))) : f_X1_cheapestPlan_b0 E (p.1 1) p1 (cH p s g) = some (r, cH p s9 g9) ∧ iH p s9 g9 N := by
  unfold c_X1_cheapestPlan_b0 at hf
  unfold f_X1_cheapestPlan_b0
  obtain ⟨q1, g1059, e1058, hf⟩ := zbind2 hf
  have hq_q1 := hq_nA h e1058
  refine kbc (k_nA h e1058) ?_
  have h := iH_g h (gle_nA e1058)
  refine kb1 (a_X_ck h) ?_
  obtain ⟨x7, z1061, e1060, hf⟩ := zbind2 hf
  obtain ⟨e1060, h⟩ := cs_X1_isFranchisee E h e1060
  refine kbc e1060 ?_
  obtain ⟨_, e1063, hf⟩ := zbind hf
  refine kb1 e1063 ?_
  obtain ⟨g1065, e1064, hf⟩ := zbind hf
  refine kb1 ((r_sI hq_q1 _ _ _).trans (congrArg (Option.map (cH p _)) e1064)) ?_
  have h := iH_g h (gle_sI e1064)
  obtain ⟨x13, z1067, e1066, hf⟩ := zbind2 hf
  obtain ⟨e1066, h⟩ := cs_X1_requireIndex E h hq_q1 e1066
  refine kbc e1066 ?_
  rcases x13 with x14 | q15
  · have hf := zinl hf
    refine kel0_l ?_
    refine kb1 (a_X_R0 h) ?_
    refine kb1 (a_Ru_R0 h) ?_
    refine kb1 (a_X_R1 h) ?_
    refine kb1 (a_Bk_ck h) ?_
    obtain ⟨x25, z1070, e1069, hf⟩ := zbind2 hf
    obtain ⟨e1069, h⟩ := cs_X4_sales E h e1069
    refine kbc e1069 ?_
    obtain ⟨x28, z1073, e1072, hf⟩ := zbind2 hf
    obtain ⟨e1072, h⟩ := cs_X1_cheapest E h e1072
    refine kbc e1072 ?_
    cases hf
    exact ⟨rfl, h⟩
  · have hf := zinr hf
    refine kel0_r ?_
    cases hf
    exact ⟨rfl, h⟩
def c_X1_cheapestPlan (E : zE) (N : iN) (p1 : Int32) (s : cT) (g : zH) : Option ((Int32 ⊕ (Nat × Nat)) × (cT × zH)) :=
  c_X1_cheapestPlan_b0 E N p1 s g
theorem cs_X1_cheapestPlan (E : zE) {s : cT} {g : zH} (h : iH p s g N) {p1 : Int32} (hf : c_X1_cheapestPlan E N p1 s g = some (r, (s9, g9))) : f_X1_cheapestPlan E (p.1 1) p1 (cH p s g) = some (r, cH p s9 g9) ∧ iH p s9 g9 N := by
  unfold c_X1_cheapestPlan at hf
  unfold f_X1_cheapestPlan
  exact cs_X1_cheapestPlan_b0 E h hf
end
section
variable {p : cP} {N : iN} {r : (Int64 ⊕ (Nat × Nat))} {s9 : cT} {g9 : zH}
def c_X1_sales_b0 (E : zE) (N : iN) (p1 : Int32) (s : cT) (g : zH) : Option ((Int64 ⊕ (Nat × Nat)) × (cT × zH)) :=
  bnd2 (c_X1_outlet E N p1 s g) fun x4 z1076 =>
  Sum.elim (fun x5 => (
    some (.inl (z1076.1.2.2.1 (N.1 + 170 + x5) 2), (z1076.1, z1076.2))
  )) (fun q6 => (
    some (.inr q6, (z1076.1, z1076.2))
  )) x4
theorem cs_X1_sales_b0 (E : zE) {s : cT} {g : zH} (h : iH p s g N) {p1 : Int32} (hf : c_X1_sales_b0 E N p1 s g = some (r, (s9, g9))) : f_X1_sales_b0 E (p.1 1) p1 (cH p s g) = some (r, cH p s9 g9) ∧ iH p s9 g9 N := by
  unfold c_X1_sales_b0 at hf
  unfold f_X1_sales_b0
  refine kb1 (a_X_ck h) ?_
  obtain ⟨x4, z1076, e1075, hf⟩ := zbind2 hf
  obtain ⟨e1075, h, hr_x4⟩ := cs_X1_outlet E h e1075
  refine kbc e1075 ?_
  rcases x4 with x5 | q6
  · have hf := zinl hf
    have hi_x5 := hr_x4 _ rfl
    refine kel_l ?_
    refine kb1 (a_Ou_L2 h hi_x5) ?_
    cases hf
    exact ⟨rfl, h⟩
  · have hf := zinr hf
    refine kel_r ?_
    cases hf
    exact ⟨rfl, h⟩
def c_X1_sales (E : zE) (N : iN) (p1 : Int32) (s : cT) (g : zH) : Option ((Int64 ⊕ (Nat × Nat)) × (cT × zH)) :=
  c_X1_sales_b0 E N p1 s g
theorem cs_X1_sales (E : zE) {s : cT} {g : zH} (h : iH p s g N) {p1 : Int32} (hf : c_X1_sales E N p1 s g = some (r, (s9, g9))) : f_X1_sales E (p.1 1) p1 (cH p s g) = some (r, cH p s9 g9) ∧ iH p s9 g9 N := by
  unfold c_X1_sales at hf
  unfold f_X1_sales
  exact cs_X1_sales_b0 E h hf
end
section
variable {p : cP} {N : iN} {r : Int32} {s9 : cT} {g9 : zH}
def c_X1_isClosed_b0 (E : zE) (N : iN) (p1 : Int32) (s : cT) (g : zH) : Option (Int32 × (cT × zH)) :=
  (zgd .boolean (if (0 : Int64) ≤ (p1.toInt64) ∧ (p1.toInt64) ≤ (((s.2.1 (N.1 + 10) 5) - (1 : Int32)).toInt64) then (1 : Int32) else 0)).bind fun _ =>
  some ((if (0 : Int64) ≤ (p1.toInt64) ∧ (p1.toInt64) ≤ (((s.2.1 (N.1 + 10) 5) - (1 : Int32)).toInt64) then (1 : Int32) else 0), (s, g))
theorem cs_X1_isClosed_b0 (E : zE) {s : cT} {g : zH} (h : iH p s g N) {p1 : Int32} (hf : c_X1_isClosed_b0 E N p1 s g = some (r, (s9, g9))) : f_X1_isClosed_b0 E (p.1 1) p1 (cH p s g) = some (r, cH p s9 g9) ∧ iH p s9 g9 N := by
  unfold c_X1_isClosed_b0 at hf
  unfold f_X1_isClosed_b0
  refine kb1 (a_X_R1 h) ?_
  refine kb1 (a_Bk_I5 h) ?_
  refine kbc (b_inRange _ _ _ _ _) ?_
  obtain ⟨_, e1079, hf⟩ := zbind hf
  refine kb1 e1079 ?_
  cases hf
  exact ⟨rfl, h⟩
def c_X1_isClosed (E : zE) (N : iN) (p1 : Int32) (s : cT) (g : zH) : Option (Int32 × (cT × zH)) :=
  c_X1_isClosed_b0 E N p1 s g
theorem cs_X1_isClosed (E : zE) {s : cT} {g : zH} (h : iH p s g N) {p1 : Int32} (hf : c_X1_isClosed E N p1 s g = some (r, (s9, g9))) : f_X1_isClosed E (p.1 1) p1 (cH p s g) = some (r, cH p s9 g9) ∧ iH p s9 g9 N := by
  unfold c_X1_isClosed at hf
  unfold f_X1_isClosed
  exact cs_X1_isClosed_b0 E h hf
end
section
variable {p : cP} {N : iN} {r : (Int64 ⊕ (Nat × Nat))} {s9 : cT} {g9 : zH}
def c_X1_salesOf_b0 (E : zE) (N : iN) (p1 : Int32) (p2 : Int32) (s : cT) (g : zH) : Option ((Int64 ⊕ (Nat × Nat)) × (cT × zH)) :=
  bnd2 (c_X1_franchisee E N p1 s g) fun x4 z1081 =>
  Sum.elim (fun x5 => (
    bnd2 (nA z1081.2 3 (1 : Int32) (.inl fun _ => 0)) fun q7 g1084 =>
    bnd2 (c_X1_isClosed E N p2 z1081.1 g1084) fun x13 z1086 =>
    (zgd .boolean x13).bind fun _ =>
    (sI z1086.2 q7 3 (0 : Int32) x13).bind fun g1090 =>
    bnd2 (c_X1_requireArguments E N q7 z1086.1 g1090) fun x19 z1092 =>
    Sum.elim (fun x20 => (
      (cdL z1092.1 (N.1 + 160 + x5) 60 p2).bind fun x24 =>
      some (.inl x24, (z1092.1, z1092.2))
    )) (fun q21 => (
      some (.inr q21, (z1092.1, z1092.2))
    )) x19
  )) (fun q6 => (
    some (.inr q6, (z1081.1, z1081.2))
  )) x4
theorem cs_X1_salesOf_b0 (E : zE) {s : cT} {g : zH} (h : iH p s g N) {p1 : Int32} {p2 : Int32} (hf : c_X1_salesOf_b0 E N p1 p2 s g = some (r, (s9, g9))) : f_X1_salesOf_b0 E (p.1 1) p1 p2 (cH p s g) = some (r, cH p s9 g9) ∧ iH p s9 g9 N := by
  unfold c_X1_salesOf_b0 at hf
  unfold f_X1_salesOf_b0
  refine kb1 (a_X_ck h) ?_
  obtain ⟨x4, z1081, e1080, hf⟩ := zbind2 hf
  obtain ⟨e1080, h, hr_x4⟩ := cs_X1_franchisee E h e1080
  refine kbc e1080 ?_
  rcases x4 with x5 | q6
  · have hf := zinl hf
    have hi_x5 := hr_x4 _ rfl
    refine kel_l ?_
    obtain ⟨q7, g1084, e1083, hf⟩ := zbind2 hf
    have hq_q7 := hq_nA h e1083
    refine kbc (k_nA h e1083) ?_
    have h := iH_g h (gle_nA e1083)
    refine kb1 (a_X_ck h) ?_
    obtain ⟨x13, z1086, e1085, hf⟩ := zbind2 hf
    obtain ⟨e1085, h⟩ := cs_X1_isClosed E h e1085
    refine kbc e1085 ?_
    obtain ⟨_, e1088, hf⟩ := zbind hf
    refine kb1 e1088 ?_
    obtain ⟨g1090, e1089, hf⟩ := zbind hf
    refine kb1 ((r_sI hq_q7 _ _ _).trans (congrArg (Option.map (cH p _)) e1089)) ?_
    have h := iH_g h (gle_sI e1089)
    obtain ⟨x19, z1092, e1091, hf⟩ := zbind2 hf
    obtain ⟨e1091, h⟩ := cs_X1_requireArguments E h hq_q7 e1091
    refine kbc e1091 ?_
    rcases x19 with x20 | q21
    · have hf := zinl hf
      refine kel0_l ?_
      refine kb1 (a_Fr_R2 h hi_x5) ?_
      obtain ⟨x24, e1094, hf⟩ := zbind hf
      obtain ⟨hj1095, e1094⟩ := cdL_spec e1094
      refine kb1 ((a_sal_d h hi_x5 hj1095).trans (congrArg some e1094)) ?_
      cases hf
      exact ⟨rfl, h⟩
    · have hf := zinr hf
      refine kel0_r ?_
      cases hf
      exact ⟨rfl, h⟩
  · have hf := zinr hf
    refine kel_r ?_
    cases hf
    exact ⟨rfl, h⟩
def c_X1_salesOf (E : zE) (N : iN) (p1 : Int32) (p2 : Int32) (s : cT) (g : zH) : Option ((Int64 ⊕ (Nat × Nat)) × (cT × zH)) :=
  c_X1_salesOf_b0 E N p1 p2 s g
theorem cs_X1_salesOf (E : zE) {s : cT} {g : zH} (h : iH p s g N) {p1 : Int32} {p2 : Int32} (hf : c_X1_salesOf E N p1 p2 s g = some (r, (s9, g9))) : f_X1_salesOf E (p.1 1) p1 p2 (cH p s g) = some (r, cH p s9 g9) ∧ iH p s9 g9 N := by
  unfold c_X1_salesOf at hf
  unfold f_X1_salesOf
  exact cs_X1_salesOf_b0 E h hf
end
section
variable {p : cP} {N : iN} {r : (Int64 ⊕ (Nat × Nat))} {s9 : cT} {g9 : zH}
def c_X1_creditDue_b0 (E : zE) (N : iN) (p1 : Int32) (p2 : Int32) (s : cT) (g : zH) : Option ((Int64 ⊕ (Nat × Nat)) × (cT × zH)) :=
  bnd2 (nA g 3 (2 : Int32) (.inl fun _ => 0)) fun q1 g1097 =>
  bnd2 (c_X1_isFranchisee E N p1 s g1097) fun x7 z1099 =>
  (zgd .boolean x7).bind fun _ =>
  (sI z1099.2 q1 3 (0 : Int32) x7).bind fun g1103 =>
  bnd2 (c_X1_isFranchisee E N p2 z1099.1 g1103) fun x14 z1105 =>
  (zgd .boolean x14).bind fun _ =>
  (sI z1105.2 q1 3 (1 : Int32) x14).bind fun g1109 =>
  bnd2 (c_X1_requireIndex E N q1 z1105.1 g1109) fun x20 z1111 =>
  Sum.elim (fun x21 => (
    bnd2 (c_X4_credit E N p1 p2 z1111.1 z1111.2) fun x28 z1114 =>
    some (.inl x28, (z1114.1, z1114.2))
  )) (fun q22 => (
    some (.inr q22, (z1111.1, z1111.2))
  )) x20
theorem cs_X1_creditDue_b0 (E : zE) {s : cT} {g : zH} (h : iH p s g N) {p1 : Int32} {p2 : Int32} (hf : c_X1_creditDue_b0 E N p1 p2 s g = some (r, (s9, g9))) : f_X1_creditDue_b0 E (p.1 1) p1 p2 (cH p s g) = some (r, cH p s9 g9) ∧ iH p s9 g9 N := by
  unfold c_X1_creditDue_b0 at hf
  unfold f_X1_creditDue_b0
  obtain ⟨q1, g1097, e1096, hf⟩ := zbind2 hf
  have hq_q1 := hq_nA h e1096
  refine kbc (k_nA h e1096) ?_
  have h := iH_g h (gle_nA e1096)
  refine kb1 (a_X_ck h) ?_
  obtain ⟨x7, z1099, e1098, hf⟩ := zbind2 hf
  obtain ⟨e1098, h⟩ := cs_X1_isFranchisee E h e1098
  refine kbc e1098 ?_
  obtain ⟨_, e1101, hf⟩ := zbind hf
  refine kb1 e1101 ?_
  obtain ⟨g1103, e1102, hf⟩ := zbind hf
  refine kb1 ((r_sI hq_q1 _ _ _).trans (congrArg (Option.map (cH p _)) e1102)) ?_
  have h := iH_g h (gle_sI e1102)
  refine kb1 (a_X_ck h) ?_
  obtain ⟨x14, z1105, e1104, hf⟩ := zbind2 hf
  obtain ⟨e1104, h⟩ := cs_X1_isFranchisee E h e1104
  refine kbc e1104 ?_
  obtain ⟨_, e1107, hf⟩ := zbind hf
  refine kb1 e1107 ?_
  obtain ⟨g1109, e1108, hf⟩ := zbind hf
  refine kb1 ((r_sI hq_q1 _ _ _).trans (congrArg (Option.map (cH p _)) e1108)) ?_
  have h := iH_g h (gle_sI e1108)
  obtain ⟨x20, z1111, e1110, hf⟩ := zbind2 hf
  obtain ⟨e1110, h⟩ := cs_X1_requireIndex E h hq_q1 e1110
  refine kbc e1110 ?_
  rcases x20 with x21 | q22
  · have hf := zinl hf
    refine kel0_l ?_
    refine kb1 (a_X_R1 h) ?_
    refine kb1 (a_Bk_ck h) ?_
    obtain ⟨x28, z1114, e1113, hf⟩ := zbind2 hf
    obtain ⟨e1113, h⟩ := cs_X4_credit E h e1113
    refine kbc e1113 ?_
    cases hf
    exact ⟨rfl, h⟩
  · have hf := zinr hf
    refine kel0_r ?_
    cases hf
    exact ⟨rfl, h⟩
def c_X1_creditDue (E : zE) (N : iN) (p1 : Int32) (p2 : Int32) (s : cT) (g : zH) : Option ((Int64 ⊕ (Nat × Nat)) × (cT × zH)) :=
  c_X1_creditDue_b0 E N p1 p2 s g
theorem cs_X1_creditDue (E : zE) {s : cT} {g : zH} (h : iH p s g N) {p1 : Int32} {p2 : Int32} (hf : c_X1_creditDue E N p1 p2 s g = some (r, (s9, g9))) : f_X1_creditDue E (p.1 1) p1 p2 (cH p s g) = some (r, cH p s9 g9) ∧ iH p s9 g9 N := by
  unfold c_X1_creditDue at hf
  unfold f_X1_creditDue
  exact cs_X1_creditDue_b0 E h hf
end
section
variable {p : cP} {N : iN} {r : (Int64 ⊕ (Nat × Nat))} {s9 : cT} {g9 : zH}
def c_X1_predictDue_b0 (E : zE) (N : iN) (p1 : Int32) (p2 : Int32) (s : cT) (g : zH) : Option ((Int64 ⊕ (Nat × Nat)) × (cT × zH)) :=
  bnd2 (nA g 3 (1 : Int32) (.inl fun _ => 0)) fun q1 g1136 =>
  bnd2 (c_X1_isFranchisee E N p1 s g1136) fun x7 z1138 =>
  (zgd .boolean x7).bind fun _ =>
  (sI z1138.2 q1 3 (0 : Int32) x7).bind fun g1142 =>
  bnd2 (c_X1_requireIndex E N q1 z1138.1 g1142) fun x13 z1144 =>
  Sum.elim (fun x14 => (
    bnd2 (nA z1144.2 3 (1 : Int32) (.inl fun _ => 0)) fun q16 g1147 =>
    (zgd .boolean (if (0 : Int64) ≤ (p2.toInt64) ∧ (p2.toInt64) ≤ (300 : Int64) then (1 : Int32) else 0)).bind fun _ =>
    (sI g1147 q16 3 (0 : Int32) (if (0 : Int64) ≤ (p2.toInt64) ∧ (p2.toInt64) ≤ (300 : Int64) then (1 : Int32) else 0)).bind fun g1151 =>
    bnd2 (c_X1_requireArguments E N q16 z1144.1 g1151) fun x27 z1153 =>
    Sum.elim (fun x28 => (
      bnd2 (c_X4_statement E N p1 p2 z1153.1 z1153.2) fun x35 z1156 =>
      (dL z1156.2 x35 (5 : Int32)).bind fun x36 =>
      some (.inl x36, (z1156.1, z1156.2))
    )) (fun q29 => (
      some (.inr q29, (z1153.1, z1153.2))
    )) x27
  )) (fun q15 => (
    some (.inr q15, (z1144.1, z1144.2))
  )) x13
theorem cs_X1_predictDue_b0 (E : zE) {s : cT} {g : zH} (h : iH p s g N) {p1 : Int32} {p2 : Int32} (hf : c_X1_predictDue_b0 E N p1 p2 s g = some (r, (s9, g9))) : f_X1_predictDue_b0 E (p.1 1) p1 p2 (cH p s g) = some (r, cH p s9 g9) ∧ iH p s9 g9 N := by
  unfold c_X1_predictDue_b0 at hf
  unfold f_X1_predictDue_b0
  obtain ⟨q1, g1136, e1135, hf⟩ := zbind2 hf
  have hq_q1 := hq_nA h e1135
  refine kbc (k_nA h e1135) ?_
  have h := iH_g h (gle_nA e1135)
  refine kb1 (a_X_ck h) ?_
  obtain ⟨x7, z1138, e1137, hf⟩ := zbind2 hf
  obtain ⟨e1137, h⟩ := cs_X1_isFranchisee E h e1137
  refine kbc e1137 ?_
  obtain ⟨_, e1140, hf⟩ := zbind hf
  refine kb1 e1140 ?_
  obtain ⟨g1142, e1141, hf⟩ := zbind hf
  refine kb1 ((r_sI hq_q1 _ _ _).trans (congrArg (Option.map (cH p _)) e1141)) ?_
  have h := iH_g h (gle_sI e1141)
  obtain ⟨x13, z1144, e1143, hf⟩ := zbind2 hf
  obtain ⟨e1143, h⟩ := cs_X1_requireIndex E h hq_q1 e1143
  refine kbc e1143 ?_
  rcases x13 with x14 | q15
  · have hf := zinl hf
    refine kel0_l ?_
    obtain ⟨q16, g1147, e1146, hf⟩ := zbind2 hf
    have hq_q16 := hq_nA h e1146
    refine kbc (k_nA h e1146) ?_
    have h := iH_g h (gle_nA e1146)
    refine kbc (b_inRange _ _ _ _ _) ?_
    obtain ⟨_, e1149, hf⟩ := zbind hf
    refine kb1 e1149 ?_
    obtain ⟨g1151, e1150, hf⟩ := zbind hf
    refine kb1 ((r_sI hq_q16 _ _ _).trans (congrArg (Option.map (cH p _)) e1150)) ?_
    have h := iH_g h (gle_sI e1150)
    obtain ⟨x27, z1153, e1152, hf⟩ := zbind2 hf
    obtain ⟨e1152, h⟩ := cs_X1_requireArguments E h hq_q16 e1152
    refine kbc e1152 ?_
    rcases x27 with x28 | q29
    · have hf := zinl hf
      refine kel0_l ?_
      refine kb1 (a_X_R1 h) ?_
      refine kb1 (a_Bk_ck h) ?_
      obtain ⟨x35, z1156, e1155, hf⟩ := zbind2 hf
      obtain ⟨e1155, h, hr_x35⟩ := cs_X4_statement E h e1155
      refine kbc e1155 ?_
      obtain ⟨x36, e1158, hf⟩ := zbind hf
      refine kb1 ((r_dL hr_x35 _).trans e1158) ?_
      cases hf
      exact ⟨rfl, h⟩
    · have hf := zinr hf
      refine kel0_r ?_
      cases hf
      exact ⟨rfl, h⟩
  · have hf := zinr hf
    refine kel0_r ?_
    cases hf
    exact ⟨rfl, h⟩
def c_X1_predictDue (E : zE) (N : iN) (p1 : Int32) (p2 : Int32) (s : cT) (g : zH) : Option ((Int64 ⊕ (Nat × Nat)) × (cT × zH)) :=
  c_X1_predictDue_b0 E N p1 p2 s g
theorem cs_X1_predictDue (E : zE) {s : cT} {g : zH} (h : iH p s g N) {p1 : Int32} {p2 : Int32} (hf : c_X1_predictDue E N p1 p2 s g = some (r, (s9, g9))) : f_X1_predictDue E (p.1 1) p1 p2 (cH p s g) = some (r, cH p s9 g9) ∧ iH p s9 g9 N := by
  unfold c_X1_predictDue at hf
  unfold f_X1_predictDue
  exact cs_X1_predictDue_b0 E h hf
end
section
variable {p : cP} {N : iN} {r : (Int64 ⊕ (Nat × Nat))} {s9 : cT} {g9 : zH}
def c_X1_balance_b0 (E : zE) (N : iN) (p1 : Int32) (s : cT) (g : zH) : Option ((Int64 ⊕ (Nat × Nat)) × (cT × zH)) :=
  bnd2 (c_X1_franchisee E N p1 s g) fun x4 z1160 =>
  Sum.elim (fun x5 => (
    some (.inl (z1160.1.2.2.1 (N.1 + 130 + x5) 8), (z1160.1, z1160.2))
  )) (fun q6 => (
    some (.inr q6, (z1160.1, z1160.2))
  )) x4
theorem cs_X1_balance_b0 (E : zE) {s : cT} {g : zH} (h : iH p s g N) {p1 : Int32} (hf : c_X1_balance_b0 E N p1 s g = some (r, (s9, g9))) : f_X1_balance_b0 E (p.1 1) p1 (cH p s g) = some (r, cH p s9 g9) ∧ iH p s9 g9 N := by
  unfold c_X1_balance_b0 at hf
  unfold f_X1_balance_b0
  refine kb1 (a_X_ck h) ?_
  obtain ⟨x4, z1160, e1159, hf⟩ := zbind2 hf
  obtain ⟨e1159, h, hr_x4⟩ := cs_X1_franchisee E h e1159
  refine kbc e1159 ?_
  rcases x4 with x5 | q6
  · have hf := zinl hf
    have hi_x5 := hr_x4 _ rfl
    refine kel_l ?_
    refine kb1 (a_Fr_L8 h hi_x5) ?_
    cases hf
    exact ⟨rfl, h⟩
  · have hf := zinr hf
    refine kel_r ?_
    cases hf
    exact ⟨rfl, h⟩
def c_X1_balance (E : zE) (N : iN) (p1 : Int32) (s : cT) (g : zH) : Option ((Int64 ⊕ (Nat × Nat)) × (cT × zH)) :=
  c_X1_balance_b0 E N p1 s g
theorem cs_X1_balance (E : zE) {s : cT} {g : zH} (h : iH p s g N) {p1 : Int32} (hf : c_X1_balance E N p1 s g = some (r, (s9, g9))) : f_X1_balance E (p.1 1) p1 (cH p s g) = some (r, cH p s9 g9) ∧ iH p s9 g9 N := by
  unfold c_X1_balance at hf
  unfold f_X1_balance
  exact cs_X1_balance_b0 E h hf
end
section
variable {p : cP} {N : iN} {r : (Int32 ⊕ (Nat × Nat))} {s9 : cT} {g9 : zH}
def c_X1_monthsOverdue_b0 (E : zE) (N : iN) (p1 : Int32) (s : cT) (g : zH) : Option ((Int32 ⊕ (Nat × Nat)) × (cT × zH)) :=
  bnd2 (c_X1_franchisee E N p1 s g) fun x4 z1163 =>
  Sum.elim (fun x5 => (
    some (.inl (z1163.1.2.1 (N.1 + 130 + x5) 7), (z1163.1, z1163.2))
  )) (fun q6 => (
    some (.inr q6, (z1163.1, z1163.2))
  )) x4
theorem cs_X1_monthsOverdue_b0 (E : zE) {s : cT} {g : zH} (h : iH p s g N) {p1 : Int32} (hf : c_X1_monthsOverdue_b0 E N p1 s g = some (r, (s9, g9))) : f_X1_monthsOverdue_b0 E (p.1 1) p1 (cH p s g) = some (r, cH p s9 g9) ∧ iH p s9 g9 N := by
  unfold c_X1_monthsOverdue_b0 at hf
  unfold f_X1_monthsOverdue_b0
  refine kb1 (a_X_ck h) ?_
  obtain ⟨x4, z1163, e1162, hf⟩ := zbind2 hf
  obtain ⟨e1162, h, hr_x4⟩ := cs_X1_franchisee E h e1162
  refine kbc e1162 ?_
  rcases x4 with x5 | q6
  · have hf := zinl hf
    have hi_x5 := hr_x4 _ rfl
    refine kel_l ?_
    refine kb1 (a_Fr_I7 h hi_x5) ?_
    cases hf
    exact ⟨rfl, h⟩
  · have hf := zinr hf
    refine kel_r ?_
    cases hf
    exact ⟨rfl, h⟩
def c_X1_monthsOverdue (E : zE) (N : iN) (p1 : Int32) (s : cT) (g : zH) : Option ((Int32 ⊕ (Nat × Nat)) × (cT × zH)) :=
  c_X1_monthsOverdue_b0 E N p1 s g
theorem cs_X1_monthsOverdue (E : zE) {s : cT} {g : zH} (h : iH p s g N) {p1 : Int32} (hf : c_X1_monthsOverdue E N p1 s g = some (r, (s9, g9))) : f_X1_monthsOverdue E (p.1 1) p1 (cH p s g) = some (r, cH p s9 g9) ∧ iH p s9 g9 N := by
  unfold c_X1_monthsOverdue at hf
  unfold f_X1_monthsOverdue
  exact cs_X1_monthsOverdue_b0 E h hf
end
section
variable {p : cP} {N : iN} {r : (Int32 ⊕ (Nat × Nat))} {s9 : cT} {g9 : zH}
def c_X1_payOff_b78 (E : zE) (N : iN) (s0 : Int32) (s : cT) (g : zH) : Option ((Int32 ⊕ (Nat × Nat)) × (cT × zH)) :=
  some (.inl s0, (s, g))
theorem cs_X1_payOff_b78 (E : zE) {s : cT} {g : zH} (h : iH p s g N) {s0 : Int32} (hf : c_X1_payOff_b78 E N s0 s g = some (r, (s9, g9))) : f_X1_payOff_b78 E s0 (cH p s g) = some (r, cH p s9 g9) ∧ iH p s9 g9 N := by
  unfold c_X1_payOff_b78 at hf
  unfold f_X1_payOff_b78
  cases hf
  exact ⟨rfl, h⟩
def c_X1_payOff_b65 (E : zE) (N : iN) (p4 : Int64) (p6 : Int32) (s : cT) (g : zH) : Option ((Int32 ⊕ (Nat × Nat)) × (cT × zH)) :=
  if p4 ≤ (0 : Int64) then (
    c_X1_payOff_b78 E N p6 s g
  ) else (
    c_X1_payOff_b78 E N (-1 : Int32) s g
  )
theorem cs_X1_payOff_b65 (E : zE) {s : cT} {g : zH} (h : iH p s g N) {p4 : Int64} {p6 : Int32} (hf : c_X1_payOff_b65 E N p4 p6 s g = some (r, (s9, g9))) : f_X1_payOff_b65 E p4 p6 (cH p s g) = some (r, cH p s9 g9) ∧ iH p s9 g9 N := by
  unfold c_X1_payOff_b65 at hf
  unfold f_X1_payOff_b65
  by_cases c1165 : p4 ≤ (0 : Int64)
  · have hf := zif_t c1165 hf
    refine kif_t c1165 ?_
    exact cs_X1_payOff_b78 E h hf
  · have hf := zif_f c1165 hf
    refine kif_f c1165 ?_
    exact cs_X1_payOff_b78 E h hf
def c_X1_payOff_l26 (E : zE) (N : iN) : Nat → Int64 → Int64 → Int32 → cT → zH → Option ((Int32 ⊕ (Nat × Nat)) × (cT × zH))
  | 0, _, _, _, _, _ => none
  | n + 1, p2, p4, p6, s, g =>
    if p4 ≤ (0 : Int64) then (
      c_X1_payOff_b65 E N p4 p6 s g
    ) else (
      if (120 : Int32) ≤ p6 then (
        c_X1_payOff_b65 E N p4 p6 s g
      ) else (
        bnd2 (c_X16_of E N 8 p4 s g) fun x10 z1169 =>
        c_X1_payOff_l26 E N n p2 (p4 + (x10 - p2)) (p6 + 1) z1169.1 z1169.2
      )
    )
theorem cs_X1_payOff_l26 (E : zE) : ∀ (n : Nat) {s : cT} {g : zH} (h : iH p s g N) {p2 : Int64} {p4 : Int64} {p6 : Int32}, c_X1_payOff_l26 E N n p2 p4 p6 s g = some (r, (s9, g9)) → f_X1_payOff_l26 E n (p.1 1) p2 p4 p6 (cH p s g) = some (r, cH p s9 g9) ∧ iH p s9 g9 N := by
  intro n
  induction n with
  | zero =>
    intro s g h p2 p4 p6 hf
    cases hf
  | succ n ih =>
    intro s g h p2 p4 p6 hf
    unfold c_X1_payOff_l26 at hf
    unfold f_X1_payOff_l26
    by_cases c1166 : p4 ≤ (0 : Int64)
    · have hf := zif_t c1166 hf
      refine kif_t c1166 ?_
      exact cs_X1_payOff_b65 E h hf
    · have hf := zif_f c1166 hf
      refine kif_f c1166 ?_
      by_cases c1167 : (120 : Int32) ≤ p6
      · have hf := zif_t c1167 hf
        refine kif_t c1167 ?_
        exact cs_X1_payOff_b65 E h hf
      · have hf := zif_f c1167 hf
        refine kif_f c1167 ?_
        refine kb1 (a_X_R0 h) ?_
        refine kb1 (a_Ru_R3 h) ?_
        refine kb1 (a_In_ck h) ?_
        obtain ⟨x10, z1169, e1168, hf⟩ := zbind2 hf
        obtain ⟨e1168, h⟩ := cs_X16_of E h (a_In_sh h) e1168
        refine kbc e1168 ?_
        exact ih h hf
def c_X1_payOff_b0 (E : zE) (N : iN) (p1 : Int32) (p2 : Int64) (s : cT) (g : zH) : Option ((Int32 ⊕ (Nat × Nat)) × (cT × zH)) :=
  bnd2 (c_X1_franchisee E N p1 s g) fun x4 z1172 =>
  Sum.elim (fun x5 => (
    bnd2 (nA z1172.2 3 (1 : Int32) (.inl fun _ => 0)) fun q9 g1175 =>
    bnd2 (c_X1_isAmount E N p2 z1172.1 g1175) fun x14 z1177 =>
    (zgd .boolean x14).bind fun _ =>
    (sI z1177.2 q9 3 (0 : Int32) x14).bind fun g1181 =>
    bnd2 (c_X1_requireArguments E N q9 z1177.1 g1181) fun x20 z1183 =>
    Sum.elim (fun x21 => (
      c_X1_payOff_l26 E N E.1 p2 (z1172.1.2.2.1 (N.1 + 130 + x5) 8) (0 : Int32) z1183.1 z1183.2
    )) (fun q22 => (
      some (.inr q22, (z1183.1, z1183.2))
    )) x20
  )) (fun q6 => (
    some (.inr q6, (z1172.1, z1172.2))
  )) x4
theorem cs_X1_payOff_b0 (E : zE) {s : cT} {g : zH} (h : iH p s g N) {p1 : Int32} {p2 : Int64} (hf : c_X1_payOff_b0 E N p1 p2 s g = some (r, (s9, g9))) : f_X1_payOff_b0 E (p.1 1) p1 p2 (cH p s g) = some (r, cH p s9 g9) ∧ iH p s9 g9 N := by
  unfold c_X1_payOff_b0 at hf
  unfold f_X1_payOff_b0
  refine kb1 (a_X_ck h) ?_
  obtain ⟨x4, z1172, e1171, hf⟩ := zbind2 hf
  obtain ⟨e1171, h, hr_x4⟩ := cs_X1_franchisee E h e1171
  refine kbc e1171 ?_
  rcases x4 with x5 | q6
  · have hf := zinl hf
    have hi_x5 := hr_x4 _ rfl
    refine kel_l ?_
    refine kb1 (a_Fr_L8 h hi_x5) ?_
    obtain ⟨q9, g1175, e1174, hf⟩ := zbind2 hf
    have hq_q9 := hq_nA h e1174
    refine kbc (k_nA h e1174) ?_
    have h := iH_g h (gle_nA e1174)
    obtain ⟨x14, z1177, e1176, hf⟩ := zbind2 hf
    obtain ⟨e1176, h⟩ := cs_X1_isAmount E h e1176
    refine kbc e1176 ?_
    obtain ⟨_, e1179, hf⟩ := zbind hf
    refine kb1 e1179 ?_
    obtain ⟨g1181, e1180, hf⟩ := zbind hf
    refine kb1 ((r_sI hq_q9 _ _ _).trans (congrArg (Option.map (cH p _)) e1180)) ?_
    have h := iH_g h (gle_sI e1180)
    obtain ⟨x20, z1183, e1182, hf⟩ := zbind2 hf
    obtain ⟨e1182, h⟩ := cs_X1_requireArguments E h hq_q9 e1182
    refine kbc e1182 ?_
    rcases x20 with x21 | q22
    · have hf := zinl hf
      refine kel0_l ?_
      exact cs_X1_payOff_l26 E E.1 h hf
    · have hf := zinr hf
      refine kel0_r ?_
      cases hf
      exact ⟨rfl, h⟩
  · have hf := zinr hf
    refine kel_r ?_
    cases hf
    exact ⟨rfl, h⟩
def c_X1_payOff (E : zE) (N : iN) (p1 : Int32) (p2 : Int64) (s : cT) (g : zH) : Option ((Int32 ⊕ (Nat × Nat)) × (cT × zH)) :=
  c_X1_payOff_b0 E N p1 p2 s g
theorem cs_X1_payOff (E : zE) {s : cT} {g : zH} (h : iH p s g N) {p1 : Int32} {p2 : Int64} (hf : c_X1_payOff E N p1 p2 s g = some (r, (s9, g9))) : f_X1_payOff E (p.1 1) p1 p2 (cH p s g) = some (r, cH p s9 g9) ∧ iH p s9 g9 N := by
  unfold c_X1_payOff at hf
  unfold f_X1_payOff
  exact cs_X1_payOff_b0 E h hf
end
section
variable {p : cP} {N : iN} {r : Int32} {s9 : cT} {g9 : zH}
def c_X12_isOpen_b21 (E : zE) (N : iN) (s0 : Int32) (s : cT) (g : zH) : Option (Int32 × (cT × zH)) :=
  (zgd .boolean s0).bind fun _ =>
  some (s0, (s, g))
theorem cs_X12_isOpen_b21 (E : zE) {s : cT} {g : zH} (h : iH p s g N) {s0 : Int32} (hf : c_X12_isOpen_b21 E N s0 s g = some (r, (s9, g9))) : f_X12_isOpen_b21 E s0 (cH p s g) = some (r, cH p s9 g9) ∧ iH p s9 g9 N := by
  unfold c_X12_isOpen_b21 at hf
  unfold f_X12_isOpen_b21
  obtain ⟨_, e1185, hf⟩ := zbind hf
  refine kb1 e1185 ?_
  cases hf
  exact ⟨rfl, h⟩
def c_X12_isOpen_b16 (E : zE) (N : iN) (s : cT) (g : zH) : Option (Int32 × (cT × zH)) :=
  c_X12_isOpen_b21 E N (1 : Int32) s g
theorem cs_X12_isOpen_b16 (E : zE) {s : cT} {g : zH} (h : iH p s g N) (hf : c_X12_isOpen_b16 E N  s g = some (r, (s9, g9))) : f_X12_isOpen_b16 E  (cH p s g) = some (r, cH p s9 g9) ∧ iH p s9 g9 N := by
  unfold c_X12_isOpen_b16 at hf
  unfold f_X12_isOpen_b16
  exact cs_X12_isOpen_b21 E h hf
def c_X12_isOpen_b0 (E : zE) (N : iN) (p0 : Nat) (s : cT) (g : zH) : Option (Int32 × (cT × zH)) :=
  if (s.2.1 (N.1 + 140 + p0) 0) = (1 : Int32) then (
    c_X12_isOpen_b16 E N s g
  ) else (
    if (s.2.1 (N.1 + 140 + p0) 0) = (2 : Int32) then (
      c_X12_isOpen_b16 E N s g
    ) else (
      c_X12_isOpen_b21 E N (0 : Int32) s g
    )
  )
theorem cs_X12_isOpen_b0 (E : zE) {s : cT} {g : zH} (h : iH p s g N) {p0 : Nat} (hi_p0 : p0 < N.2.1) (hf : c_X12_isOpen_b0 E N p0 s g = some (r, (s9, g9))) : f_X12_isOpen_b0 E (p.1 (N.1 + 140 + p0)) (cH p s g) = some (r, cH p s9 g9) ∧ iH p s9 g9 N := by
  unfold c_X12_isOpen_b0 at hf
  unfold f_X12_isOpen_b0
  refine kb1 (a_Tr_I0 h hi_p0) ?_
  by_cases c1186 : (s.2.1 (N.1 + 140 + p0) 0) = (1 : Int32)
  · have hf := zif_t c1186 hf
    refine kif_t c1186 ?_
    exact cs_X12_isOpen_b16 E h hf
  · have hf := zif_f c1186 hf
    refine kif_f c1186 ?_
    refine kb1 (a_Tr_I0 h hi_p0) ?_
    by_cases c1187 : (s.2.1 (N.1 + 140 + p0) 0) = (2 : Int32)
    · have hf := zif_t c1187 hf
      refine kif_t c1187 ?_
      exact cs_X12_isOpen_b16 E h hf
    · have hf := zif_f c1187 hf
      refine kif_f c1187 ?_
      exact cs_X12_isOpen_b21 E h hf
def c_X12_isOpen (E : zE) (N : iN) (p0 : Nat) (s : cT) (g : zH) : Option (Int32 × (cT × zH)) :=
  c_X12_isOpen_b0 E N p0 s g
theorem cs_X12_isOpen (E : zE) {s : cT} {g : zH} (h : iH p s g N) {p0 : Nat} (hi_p0 : p0 < N.2.1) (hf : c_X12_isOpen E N p0 s g = some (r, (s9, g9))) : f_X12_isOpen E (p.1 (N.1 + 140 + p0)) (cH p s g) = some (r, cH p s9 g9) ∧ iH p s9 g9 N := by
  unfold c_X12_isOpen at hf
  unfold f_X12_isOpen
  exact cs_X12_isOpen_b0 E h hi_p0 hf
end
section
variable {p : cP} {N : iN} {r : Unit} {s9 : cT} {g9 : zH}
def c_X4_terminate_b127 (E : zE) (N : iN) (k97 : Int32 → Int32 → cT → zH → Option (Unit × (cT × zH))) (p1 : Int32) (p3 : Int32) (s : cT) (g : zH) : Option (Unit × (cT × zH)) :=
  k97 p1 (p3 + 1) s g
theorem cs_X4_terminate_b127 (E : zE) {K97 : Nat → Int32 → Int32 → zH → Option (Unit × zH)} {k97 : Int32 → Int32 → cT → zH → Option (Unit × (cT × zH))} (hk97 : ∀ {s : cT} {g : zH} (h : iH p s g N) {p1 : Int32} {p3 : Int32}, k97 p1 p3 s g = some (r, (s9, g9)) → K97 (p.1 (N.1 + 10)) p1 p3 (cH p s g) = some (r, cH p s9 g9) ∧ iH p s9 g9 N) {s : cT} {g : zH} (h : iH p s g N) {p1 : Int32} {p3 : Int32} (hf : c_X4_terminate_b127 E N k97 p1 p3 s g = some (r, (s9, g9))) : f_X4_terminate_b127 E K97 (p.1 (N.1 + 10)) p1 p3 (cH p s g) = some (r, cH p s9 g9) ∧ iH p s9 g9 N := by
  unfold c_X4_terminate_b127 at hf
  unfold f_X4_terminate_b127
  exact hk97 h hf
def c_X4_terminate_l97 (E : zE) (N : iN) : Nat → Int32 → Int32 → cT → zH → Option (Unit × (cT × zH))
  | 0, _, _, _, _ => none
  | n + 1, p1, p3, s, g =>
    if (900 : Int32) ≤ p3 then (
      some ((), (s, g))
    ) else (
      (cdI s (N.1 + 16) 900 p3).bind fun x6 =>
      if x6 = p1 then (
        (csI s (N.1 + 16) 900 p3 ((-1 : Int32).toInt8.toInt32)).bind fun s1193 =>
        c_X4_terminate_b127 E N (c_X4_terminate_l97 E N n) p1 p3 s1193 g
      ) else (
        c_X4_terminate_b127 E N (c_X4_terminate_l97 E N n) p1 p3 s g
      )
    )
theorem cs_X4_terminate_l97 (E : zE) : ∀ (n : Nat) {s : cT} {g : zH} (h : iH p s g N) {p1 : Int32} {p3 : Int32}, c_X4_terminate_l97 E N n p1 p3 s g = some (r, (s9, g9)) → f_X4_terminate_l97 E n (p.1 (N.1 + 10)) p1 p3 (cH p s g) = some (r, cH p s9 g9) ∧ iH p s9 g9 N := by
  intro n
  induction n with
  | zero =>
    intro s g h p1 p3 hf
    cases hf
  | succ n ih =>
    intro s g h p1 p3 hf
    unfold c_X4_terminate_l97 at hf
    unfold f_X4_terminate_l97
    by_cases c1188 : (900 : Int32) ≤ p3
    · have hf := zif_t c1188 hf
      refine kif_t c1188 ?_
      cases hf
      exact ⟨rfl, h⟩
    · have hf := zif_f c1188 hf
      refine kif_f c1188 ?_
      refine kb1 (a_Bk_R2 h) ?_
      refine kb1 (a_Gr_R0 h) ?_
      obtain ⟨x6, e1189, hf⟩ := zbind hf
      obtain ⟨hj1190, e1189⟩ := cdI_spec e1189
      refine kb1 ((a_own_d h hj1190).trans (congrArg some e1189)) ?_
      by_cases c1191 : x6 = p1
      · have hf := zif_t c1191 hf
        refine kif_t c1191 ?_
        refine kb1 (a_Bk_R2 h) ?_
        refine kb1 (a_Gr_R0 h) ?_
        obtain ⟨s1193, e1192, hf⟩ := zbind hf
        obtain ⟨hj1194, e1192⟩ := csI_spec e1192
        refine kb1 ((a_own_s h hj1194 _).trans (congrArg (fun z9 => some (cH p z9 _)) e1192)) ?_
        have h := iH_uI h (d := (N.1 + 16)) (by have := h.2.2.2.2.2; exact ⟨by omega, by omega, by omega, fun _ _ => by omega⟩) (p3).toNatClampNeg ((-1 : Int32).toInt8.toInt32)
        rw [e1192] at h
        exact cs_X4_terminate_b127 E ih h hf
      · have hf := zif_f c1191 hf
        refine kif_f c1191 ?_
        exact cs_X4_terminate_b127 E ih h hf
def c_X4_terminate_b89 (E : zE) (N : iN) (k39 : Int32 → Int32 → cT → zH → Option (Unit × (cT × zH))) (p1 : Int32) (p3 : Int32) (s : cT) (g : zH) : Option (Unit × (cT × zH)) :=
  k39 p1 (p3 + 1) s g
theorem cs_X4_terminate_b89 (E : zE) {K39 : Nat → Int32 → Int32 → zH → Option (Unit × zH)} {k39 : Int32 → Int32 → cT → zH → Option (Unit × (cT × zH))} (hk39 : ∀ {s : cT} {g : zH} (h : iH p s g N) {p1 : Int32} {p3 : Int32}, k39 p1 p3 s g = some (r, (s9, g9)) → K39 (p.1 (N.1 + 10)) p1 p3 (cH p s g) = some (r, cH p s9 g9) ∧ iH p s9 g9 N) {s : cT} {g : zH} (h : iH p s g N) {p1 : Int32} {p3 : Int32} (hf : c_X4_terminate_b89 E N k39 p1 p3 s g = some (r, (s9, g9))) : f_X4_terminate_b89 E K39 (p.1 (N.1 + 10)) p1 p3 (cH p s g) = some (r, cH p s9 g9) ∧ iH p s9 g9 N := by
  unfold c_X4_terminate_b89 at hf
  unfold f_X4_terminate_b89
  exact hk39 h hf
def c_X4_terminate_l39 (E : zE) (N : iN) : Nat → Int32 → Int32 → cT → zH → Option (Unit × (cT × zH))
  | 0, _, _, _, _ => none
  | n + 1, p1, p3, s, g =>
    if (Int32.ofNat N.2.2.1) ≤ p3 then (
      c_X4_terminate_l97 E N E.1 p1 (0 : Int32) s g
    ) else (
      (cGet N.2.2.1 p3).bind fun i1198 =>
      if (s.2.1 (N.1 + 170 + i1198) 1) = p1 then (
        (cGet N.2.2.1 p3).bind fun i1201 =>
        c_X4_terminate_b89 E N (c_X4_terminate_l39 E N n) p1 p3 (uI s (N.1 + 170 + i1201) 1 (-1 : Int32)) g
      ) else (
        c_X4_terminate_b89 E N (c_X4_terminate_l39 E N n) p1 p3 s g
      )
    )
theorem cs_X4_terminate_l39 (E : zE) : ∀ (n : Nat) {s : cT} {g : zH} (h : iH p s g N) {p1 : Int32} {p3 : Int32}, c_X4_terminate_l39 E N n p1 p3 s g = some (r, (s9, g9)) → f_X4_terminate_l39 E n (p.1 (N.1 + 10)) p1 p3 (cH p s g) = some (r, cH p s9 g9) ∧ iH p s9 g9 N := by
  intro n
  induction n with
  | zero =>
    intro s g h p1 p3 hf
    cases hf
  | succ n ih =>
    intro s g h p1 p3 hf
    unfold c_X4_terminate_l39 at hf
    unfold f_X4_terminate_l39
    refine kb1 (a_Bk_R1 h) ?_
    refine kb1 (a_OL_ck h) ?_
    refine kbc (a_OL_n h E) ?_
    by_cases c1196 : (Int32.ofNat N.2.2.1) ≤ p3
    · have hf := zif_t c1196 hf
      refine kif_t c1196 ?_
      exact cs_X4_terminate_l97 E E.1 h hf
    · have hf := zif_f c1196 hf
      refine kif_f c1196 ?_
      refine kb1 (a_Bk_R1 h) ?_
      refine kb1 (a_OL_ck h) ?_
      obtain ⟨i1198, e1197, hf⟩ := zbind hf
      have hi_i1198 := cGet_lt e1197
      refine kbc (a_OL_G h E e1197) ?_
      refine kb1 (a_Ou_ck h hi_i1198) ?_
      refine kb1 (a_Ou_I1 h hi_i1198) ?_
      by_cases c1199 : (s.2.1 (N.1 + 170 + i1198) 1) = p1
      · have hf := zif_t c1199 hf
        refine kif_t c1199 ?_
        refine kb1 (a_Bk_R1 h) ?_
        refine kb1 (a_OL_ck h) ?_
        obtain ⟨i1201, e1200, hf⟩ := zbind hf
        have hi_i1201 := cGet_lt e1200
        refine kbc (a_OL_G h E e1200) ?_
        refine kb1 (a_Ou_ck h hi_i1201) ?_
        refine kb1 (a_Ou_pI1 h hi_i1201 _) ?_
        have h := iH_uI h (d := (N.1 + 170 + i1201)) (by have := h.2.2.2.2.2; exact ⟨by omega, by omega, by omega, fun _ _ => by omega⟩) 1 (-1 : Int32)
        exact cs_X4_terminate_b89 E ih h hf
      · have hf := zif_f c1199 hf
        refine kif_f c1199 ?_
        exact cs_X4_terminate_b89 E ih h hf
def c_X4_terminate_b37 (E : zE) (N : iN) (p1 : Int32) (s : cT) (g : zH) : Option (Unit × (cT × zH)) :=
  c_X4_terminate_l39 E N E.1 p1 (0 : Int32) s g
theorem cs_X4_terminate_b37 (E : zE) {s : cT} {g : zH} (h : iH p s g N) {p1 : Int32} (hf : c_X4_terminate_b37 E N p1 s g = some (r, (s9, g9))) : f_X4_terminate_b37 E (p.1 (N.1 + 10)) p1 (cH p s g) = some (r, cH p s9 g9) ∧ iH p s9 g9 N := by
  unfold c_X4_terminate_b37 at hf
  unfold f_X4_terminate_b37
  exact cs_X4_terminate_l39 E E.1 h hf
def c_X4_terminate_b0 (E : zE) (N : iN) (p1 : Int32) (s : cT) (g : zH) : Option (Unit × (cT × zH)) :=
  (cGet N.2.1 p1).bind fun i1203 =>
  bnd2 (c_X12_isOpen E N i1203 (uI s (N.1 + 130 + i1203) 5 (1 : Int32)) g) fun x15 z1205 =>
  if x15 = 0 then (
    c_X4_terminate_b37 E N p1 z1205.1 z1205.2
  ) else (
    c_X4_terminate_b37 E N p1 (uI z1205.1 (N.1 + 140 + i1203) 0 (3 : Int32)) z1205.2
  )
theorem cs_X4_terminate_b0 (E : zE) {s : cT} {g : zH} (h : iH p s g N) {p1 : Int32} (hf : c_X4_terminate_b0 E N p1 s g = some (r, (s9, g9))) : f_X4_terminate_b0 E (p.1 (N.1 + 10)) p1 (cH p s g) = some (r, cH p s9 g9) ∧ iH p s9 g9 N := by
  unfold c_X4_terminate_b0 at hf
  unfold f_X4_terminate_b0
  refine kb1 (a_Bk_R0 h) ?_
  refine kb1 (a_FL_ck h) ?_
  obtain ⟨i1203, e1202, hf⟩ := zbind hf
  have hi_i1203 := cGet_lt e1202
  refine kbc (a_FL_G h E e1202) ?_
  refine kb1 (a_Fr_ck h hi_i1203) ?_
  refine kb1 (a_Fr_pI5 h hi_i1203 _) ?_
  have h := iH_uI h (d := (N.1 + 130 + i1203)) (by have := h.2.2.2.2.2; exact ⟨by omega, by omega, by omega, fun _ _ => by omega⟩) 5 (1 : Int32)
  refine kb1 (a_Fr_R0 h hi_i1203) ?_
  refine kb1 (a_Tr_ck h hi_i1203) ?_
  obtain ⟨x15, z1205, e1204, hf⟩ := zbind2 hf
  obtain ⟨e1204, h⟩ := cs_X12_isOpen E h hi_i1203 e1204
  refine kbc e1204 ?_
  by_cases c1207 : x15 = 0
  · have hf := zif_t c1207 hf
    refine kif_t c1207 ?_
    exact cs_X4_terminate_b37 E h hf
  · have hf := zif_f c1207 hf
    refine kif_f c1207 ?_
    refine kb1 (a_Fr_R0 h hi_i1203) ?_
    refine kb1 (a_Tr_pI0 h hi_i1203 _) ?_
    have h := iH_uI h (d := (N.1 + 140 + i1203)) (by have := h.2.2.2.2.2; exact ⟨by omega, by omega, by omega, fun _ _ => by omega⟩) 0 (3 : Int32)
    exact cs_X4_terminate_b37 E h hf
def c_X4_terminate (E : zE) (N : iN) (p1 : Int32) (s : cT) (g : zH) : Option (Unit × (cT × zH)) :=
  c_X4_terminate_b0 E N p1 s g
theorem cs_X4_terminate (E : zE) {s : cT} {g : zH} (h : iH p s g N) {p1 : Int32} (hf : c_X4_terminate E N p1 s g = some (r, (s9, g9))) : f_X4_terminate E (p.1 (N.1 + 10)) p1 (cH p s g) = some (r, cH p s9 g9) ∧ iH p s9 g9 N := by
  unfold c_X4_terminate at hf
  unfold f_X4_terminate
  exact cs_X4_terminate_b0 E h hf
end
section
variable {p : cP} {N : iN} {r : (Int32 ⊕ (Nat × Nat))} {s9 : cT} {g9 : zH}
def c_X1_terminate_b21 (E : zE) (N : iN) (s : cT) (g : zH) : Option ((Int32 ⊕ (Nat × Nat)) × (cT × zH)) :=
  some (.inl (0 : Int32), (s, g))
theorem cs_X1_terminate_b21 (E : zE) {s : cT} {g : zH} (h : iH p s g N) (hf : c_X1_terminate_b21 E N  s g = some (r, (s9, g9))) : f_X1_terminate_b21 E  (cH p s g) = some (r, cH p s9 g9) ∧ iH p s9 g9 N := by
  unfold c_X1_terminate_b21 at hf
  unfold f_X1_terminate_b21
  cases hf
  exact ⟨rfl, h⟩
def c_X1_terminate_b0 (E : zE) (N : iN) (p1 : Int32) (s : cT) (g : zH) : Option ((Int32 ⊕ (Nat × Nat)) × (cT × zH)) :=
  bnd2 (c_X1_franchisee E N p1 s g) fun x4 z1209 =>
  Sum.elim (fun x5 => (
    bnd2 (c_X11_isActive E N x5 z1209.1 z1209.2) fun x10 z1212 =>
    if x10 = 0 then (
      c_X1_terminate_b21 E N z1212.1 z1212.2
    ) else (
      if (3 : Int32) ≤ (z1212.1.2.1 (N.1 + 130 + x5) 7) then (
        bnd2 (c_X4_terminate E N p1 z1212.1 z1212.2) fun x20 z1217 =>
        some (.inl (1 : Int32), (z1217.1, z1217.2))
      ) else (
        c_X1_terminate_b21 E N z1212.1 z1212.2
      )
    )
  )) (fun q6 => (
    some (.inr q6, (z1209.1, z1209.2))
  )) x4
theorem cs_X1_terminate_b0 (E : zE) {s : cT} {g : zH} (h : iH p s g N) {p1 : Int32} (hf : c_X1_terminate_b0 E N p1 s g = some (r, (s9, g9))) : f_X1_terminate_b0 E (p.1 1) p1 (cH p s g) = some (r, cH p s9 g9) ∧ iH p s9 g9 N := by
  unfold c_X1_terminate_b0 at hf
  unfold f_X1_terminate_b0
  refine kb1 (a_X_ck h) ?_
  obtain ⟨x4, z1209, e1208, hf⟩ := zbind2 hf
  obtain ⟨e1208, h, hr_x4⟩ := cs_X1_franchisee E h e1208
  refine kbc e1208 ?_
  rcases x4 with x5 | q6
  · have hf := zinl hf
    have hi_x5 := hr_x4 _ rfl
    refine kel_l ?_
    refine kb1 (a_Fr_ck h hi_x5) ?_
    obtain ⟨x10, z1212, e1211, hf⟩ := zbind2 hf
    obtain ⟨e1211, h⟩ := cs_X11_isActive E h hi_x5 e1211
    refine kbc e1211 ?_
    by_cases c1214 : x10 = 0
    · have hf := zif_t c1214 hf
      refine kif_t c1214 ?_
      exact cs_X1_terminate_b21 E h hf
    · have hf := zif_f c1214 hf
      refine kif_f c1214 ?_
      refine kb1 (a_Fr_I7 h hi_x5) ?_
      by_cases c1215 : (3 : Int32) ≤ (z1212.1.2.1 (N.1 + 130 + x5) 7)
      · have hf := zif_t c1215 hf
        refine kif_t c1215 ?_
        refine kb1 (a_X_R1 h) ?_
        refine kb1 (a_Bk_ck h) ?_
        obtain ⟨x20, z1217, e1216, hf⟩ := zbind2 hf
        obtain ⟨e1216, h⟩ := cs_X4_terminate E h e1216
        refine kbc e1216 ?_
        cases hf
        exact ⟨rfl, h⟩
      · have hf := zif_f c1215 hf
        refine kif_f c1215 ?_
        exact cs_X1_terminate_b21 E h hf
  · have hf := zinr hf
    refine kel_r ?_
    cases hf
    exact ⟨rfl, h⟩
def c_X1_terminate (E : zE) (N : iN) (p1 : Int32) (s : cT) (g : zH) : Option ((Int32 ⊕ (Nat × Nat)) × (cT × zH)) :=
  c_X1_terminate_b0 E N p1 s g
theorem cs_X1_terminate (E : zE) {s : cT} {g : zH} (h : iH p s g N) {p1 : Int32} (hf : c_X1_terminate E N p1 s g = some (r, (s9, g9))) : f_X1_terminate E (p.1 1) p1 (cH p s g) = some (r, cH p s9 g9) ∧ iH p s9 g9 N := by
  unfold c_X1_terminate at hf
  unfold f_X1_terminate
  exact cs_X1_terminate_b0 E h hf
end
section
variable {p : cP} {N : iN} {r : (Int32 ⊕ (Nat × Nat))} {s9 : cT} {g9 : zH}
def c_X1_status_b0 (E : zE) (N : iN) (p1 : Int32) (s : cT) (g : zH) : Option ((Int32 ⊕ (Nat × Nat)) × (cT × zH)) :=
  bnd2 (c_X1_franchisee E N p1 s g) fun x4 z1220 =>
  Sum.elim (fun x5 => (
    some (.inl (z1220.1.2.1 (N.1 + 130 + x5) 5), (z1220.1, z1220.2))
  )) (fun q6 => (
    some (.inr q6, (z1220.1, z1220.2))
  )) x4
theorem cs_X1_status_b0 (E : zE) {s : cT} {g : zH} (h : iH p s g N) {p1 : Int32} (hf : c_X1_status_b0 E N p1 s g = some (r, (s9, g9))) : f_X1_status_b0 E (p.1 1) p1 (cH p s g) = some (r, cH p s9 g9) ∧ iH p s9 g9 N := by
  unfold c_X1_status_b0 at hf
  unfold f_X1_status_b0
  refine kb1 (a_X_ck h) ?_
  obtain ⟨x4, z1220, e1219, hf⟩ := zbind2 hf
  obtain ⟨e1219, h, hr_x4⟩ := cs_X1_franchisee E h e1219
  refine kbc e1219 ?_
  rcases x4 with x5 | q6
  · have hf := zinl hf
    have hi_x5 := hr_x4 _ rfl
    refine kel_l ?_
    refine kb1 (a_Fr_I5 h hi_x5) ?_
    cases hf
    exact ⟨rfl, h⟩
  · have hf := zinr hf
    refine kel_r ?_
    cases hf
    exact ⟨rfl, h⟩
def c_X1_status (E : zE) (N : iN) (p1 : Int32) (s : cT) (g : zH) : Option ((Int32 ⊕ (Nat × Nat)) × (cT × zH)) :=
  c_X1_status_b0 E N p1 s g
theorem cs_X1_status (E : zE) {s : cT} {g : zH} (h : iH p s g N) {p1 : Int32} (hf : c_X1_status E N p1 s g = some (r, (s9, g9))) : f_X1_status E (p.1 1) p1 (cH p s g) = some (r, cH p s9 g9) ∧ iH p s9 g9 N := by
  unfold c_X1_status at hf
  unfold f_X1_status
  exact cs_X1_status_b0 E h hf
end
section
variable {p : cP} {N : iN} {r : (Int64 ⊕ (Nat × Nat))} {s9 : cT} {g9 : zH}
def c_X1_contributions_b0 (E : zE) (N : iN) (p1 : Int32) (s : cT) (g : zH) : Option ((Int64 ⊕ (Nat × Nat)) × (cT × zH)) :=
  bnd2 (c_X1_franchisee E N p1 s g) fun x4 z1223 =>
  Sum.elim (fun x5 => (
    some (.inl (z1223.1.2.2.1 (N.1 + 130 + x5) 9), (z1223.1, z1223.2))
  )) (fun q6 => (
    some (.inr q6, (z1223.1, z1223.2))
  )) x4
theorem cs_X1_contributions_b0 (E : zE) {s : cT} {g : zH} (h : iH p s g N) {p1 : Int32} (hf : c_X1_contributions_b0 E N p1 s g = some (r, (s9, g9))) : f_X1_contributions_b0 E (p.1 1) p1 (cH p s g) = some (r, cH p s9 g9) ∧ iH p s9 g9 N := by
  unfold c_X1_contributions_b0 at hf
  unfold f_X1_contributions_b0
  refine kb1 (a_X_ck h) ?_
  obtain ⟨x4, z1223, e1222, hf⟩ := zbind2 hf
  obtain ⟨e1222, h, hr_x4⟩ := cs_X1_franchisee E h e1222
  refine kbc e1222 ?_
  rcases x4 with x5 | q6
  · have hf := zinl hf
    have hi_x5 := hr_x4 _ rfl
    refine kel_l ?_
    refine kb1 (a_Fr_L9 h hi_x5) ?_
    cases hf
    exact ⟨rfl, h⟩
  · have hf := zinr hf
    refine kel_r ?_
    cases hf
    exact ⟨rfl, h⟩
def c_X1_contributions (E : zE) (N : iN) (p1 : Int32) (s : cT) (g : zH) : Option ((Int64 ⊕ (Nat × Nat)) × (cT × zH)) :=
  c_X1_contributions_b0 E N p1 s g
theorem cs_X1_contributions (E : zE) {s : cT} {g : zH} (h : iH p s g N) {p1 : Int32} (hf : c_X1_contributions E N p1 s g = some (r, (s9, g9))) : f_X1_contributions E (p.1 1) p1 (cH p s g) = some (r, cH p s9 g9) ∧ iH p s9 g9 N := by
  unfold c_X1_contributions at hf
  unfold f_X1_contributions
  exact cs_X1_contributions_b0 E h hf
end
section
variable {p : cP} {N : iN} {r : (Int64 ⊕ (Nat × Nat))} {s9 : cT} {g9 : zH}
def c_X1_spent_b0 (E : zE) (N : iN) (p1 : Int32) (s : cT) (g : zH) : Option ((Int64 ⊕ (Nat × Nat)) × (cT × zH)) :=
  bnd2 (nA g 3 (1 : Int32) (.inl fun _ => 0)) fun q1 g1226 =>
  (zgd .boolean (if (0 : Int64) ≤ (p1.toInt64) ∧ (p1.toInt64) ≤ (2 : Int64) then (1 : Int32) else 0)).bind fun _ =>
  (sI g1226 q1 3 (0 : Int32) (if (0 : Int64) ≤ (p1.toInt64) ∧ (p1.toInt64) ≤ (2 : Int64) then (1 : Int32) else 0)).bind fun g1230 =>
  bnd2 (c_X1_requireArguments E N q1 s g1230) fun x12 z1232 =>
  Sum.elim (fun x13 => (
    (cdL z1232.1 (N.1 + 20) 3 p1).bind fun x19 =>
    some (.inl x19, (z1232.1, z1232.2))
  )) (fun q14 => (
    some (.inr q14, (z1232.1, z1232.2))
  )) x12
theorem cs_X1_spent_b0 (E : zE) {s : cT} {g : zH} (h : iH p s g N) {p1 : Int32} (hf : c_X1_spent_b0 E N p1 s g = some (r, (s9, g9))) : f_X1_spent_b0 E (p.1 1) p1 (cH p s g) = some (r, cH p s9 g9) ∧ iH p s9 g9 N := by
  unfold c_X1_spent_b0 at hf
  unfold f_X1_spent_b0
  obtain ⟨q1, g1226, e1225, hf⟩ := zbind2 hf
  have hq_q1 := hq_nA h e1225
  refine kbc (k_nA h e1225) ?_
  have h := iH_g h (gle_nA e1225)
  refine kbc (b_inRange _ _ _ _ _) ?_
  obtain ⟨_, e1228, hf⟩ := zbind hf
  refine kb1 e1228 ?_
  obtain ⟨g1230, e1229, hf⟩ := zbind hf
  refine kb1 ((r_sI hq_q1 _ _ _).trans (congrArg (Option.map (cH p _)) e1229)) ?_
  have h := iH_g h (gle_sI e1229)
  obtain ⟨x12, z1232, e1231, hf⟩ := zbind2 hf
  obtain ⟨e1231, h⟩ := cs_X1_requireArguments E h hq_q1 e1231
  refine kbc e1231 ?_
  rcases x12 with x13 | q14
  · have hf := zinl hf
    refine kel0_l ?_
    refine kb1 (a_X_R1 h) ?_
    refine kb1 (a_Bk_R4 h) ?_
    obtain ⟨x19, e1234, hf⟩ := zbind hf
    obtain ⟨hj1235, e1234⟩ := cdL_spec e1234
    refine kb1 ((a_spe_d h hj1235).trans (congrArg some e1234)) ?_
    cases hf
    exact ⟨rfl, h⟩
  · have hf := zinr hf
    refine kel0_r ?_
    cases hf
    exact ⟨rfl, h⟩
def c_X1_spent (E : zE) (N : iN) (p1 : Int32) (s : cT) (g : zH) : Option ((Int64 ⊕ (Nat × Nat)) × (cT × zH)) :=
  c_X1_spent_b0 E N p1 s g
theorem cs_X1_spent (E : zE) {s : cT} {g : zH} (h : iH p s g N) {p1 : Int32} (hf : c_X1_spent E N p1 s g = some (r, (s9, g9))) : f_X1_spent E (p.1 1) p1 (cH p s g) = some (r, cH p s9 g9) ∧ iH p s9 g9 N := by
  unfold c_X1_spent at hf
  unfold f_X1_spent
  exact cs_X1_spent_b0 E h hf
end
section
variable {p : cP} {N : iN} {r : (Int64 ⊕ (Nat × Nat))} {s9 : cT} {g9 : zH}
def c_X1_allowance_b0 (E : zE) (N : iN) (p1 : Int32) (s : cT) (g : zH) : Option ((Int64 ⊕ (Nat × Nat)) × (cT × zH)) :=
  bnd2 (c_X1_franchisee E N p1 s g) fun x4 z1237 =>
  Sum.elim (fun x5 => (
    bnd2 (c_X11_allowance E N x5 z1237.1 z1237.2) fun x10 z1240 =>
    some (.inl x10, (z1240.1, z1240.2))
  )) (fun q6 => (
    some (.inr q6, (z1237.1, z1237.2))
  )) x4
theorem cs_X1_allowance_b0 (E : zE) {s : cT} {g : zH} (h : iH p s g N) {p1 : Int32} (hf : c_X1_allowance_b0 E N p1 s g = some (r, (s9, g9))) : f_X1_allowance_b0 E (p.1 1) p1 (cH p s g) = some (r, cH p s9 g9) ∧ iH p s9 g9 N := by
  unfold c_X1_allowance_b0 at hf
  unfold f_X1_allowance_b0
  refine kb1 (a_X_ck h) ?_
  obtain ⟨x4, z1237, e1236, hf⟩ := zbind2 hf
  obtain ⟨e1236, h, hr_x4⟩ := cs_X1_franchisee E h e1236
  refine kbc e1236 ?_
  rcases x4 with x5 | q6
  · have hf := zinl hf
    have hi_x5 := hr_x4 _ rfl
    refine kel_l ?_
    refine kb1 (a_Fr_ck h hi_x5) ?_
    obtain ⟨x10, z1240, e1239, hf⟩ := zbind2 hf
    obtain ⟨e1239, h⟩ := cs_X11_allowance E h hi_x5 e1239
    refine kbc e1239 ?_
    cases hf
    exact ⟨rfl, h⟩
  · have hf := zinr hf
    refine kel_r ?_
    cases hf
    exact ⟨rfl, h⟩
def c_X1_allowance (E : zE) (N : iN) (p1 : Int32) (s : cT) (g : zH) : Option ((Int64 ⊕ (Nat × Nat)) × (cT × zH)) :=
  c_X1_allowance_b0 E N p1 s g
theorem cs_X1_allowance (E : zE) {s : cT} {g : zH} (h : iH p s g N) {p1 : Int32} (hf : c_X1_allowance E N p1 s g = some (r, (s9, g9))) : f_X1_allowance E (p.1 1) p1 (cH p s g) = some (r, cH p s9 g9) ∧ iH p s9 g9 N := by
  unfold c_X1_allowance at hf
  unfold f_X1_allowance
  exact cs_X1_allowance_b0 E h hf
end
section
variable {p : cP} {N : iN} {r : Int64} {s9 : cT} {g9 : zH}
def c_X4_shareOf_b41 (E : zE) (N : iN) (s0 : Int64) (s : cT) (g : zH) : Option (Int64 × (cT × zH)) :=
  some (s0, (s, g))
theorem cs_X4_shareOf_b41 (E : zE) {s : cT} {g : zH} (h : iH p s g N) {s0 : Int64} (hf : c_X4_shareOf_b41 E N s0 s g = some (r, (s9, g9))) : f_X4_shareOf_b41 E s0 (cH p s g) = some (r, cH p s9 g9) ∧ iH p s9 g9 N := by
  unfold c_X4_shareOf_b41 at hf
  unfold f_X4_shareOf_b41
  cases hf
  exact ⟨rfl, h⟩
def c_X4_shareOf_b0 (E : zE) (N : iN) (p1 : Int32) (p2 : Int64) (p4 : Int32) (s : cT) (g : zH) : Option (Int64 × (cT × zH)) :=
  (cdL s (N.1 + 20) 3 (1 : Int32)).bind fun x3 =>
  (cGet N.2.1 p1).bind fun i1245 =>
  if p4 = 0 then (
    (zn0L p2).bind fun _ =>
    c_X4_shareOf_b41 E N ((x3 * (s.2.2.1 (N.1 + 130 + i1245) 9)) / p2) s g
  ) else (
    (zn0L p2).bind fun _ =>
    c_X4_shareOf_b41 E N ((x3 * (s.2.2.1 (N.1 + 130 + i1245) 9)) - (x3 * (s.2.2.1 (N.1 + 130 + i1245) 9)) / p2 * p2) s g
  )
theorem cs_X4_shareOf_b0 (E : zE) {s : cT} {g : zH} (h : iH p s g N) {p1 : Int32} {p2 : Int64} {p4 : Int32} (hf : c_X4_shareOf_b0 E N p1 p2 p4 s g = some (r, (s9, g9))) : f_X4_shareOf_b0 E (p.1 (N.1 + 10)) p1 p2 p4 (cH p s g) = some (r, cH p s9 g9) ∧ iH p s9 g9 N := by
  unfold c_X4_shareOf_b0 at hf
  unfold f_X4_shareOf_b0
  refine kb1 (a_Bk_R4 h) ?_
  obtain ⟨x3, e1242, hf⟩ := zbind hf
  obtain ⟨hj1243, e1242⟩ := cdL_spec e1242
  refine kb1 ((a_spe_d h hj1243).trans (congrArg some e1242)) ?_
  refine kb1 (a_Bk_R0 h) ?_
  refine kb1 (a_FL_ck h) ?_
  obtain ⟨i1245, e1244, hf⟩ := zbind hf
  have hi_i1245 := cGet_lt e1244
  refine kbc (a_FL_G h E e1244) ?_
  refine kb1 (a_Fr_ck h hi_i1245) ?_
  refine kb1 (a_Fr_L9 h hi_i1245) ?_
  by_cases c1246 : p4 = 0
  · have hf := zif_t c1246 hf
    refine kif_t c1246 ?_
    obtain ⟨_, e1247, hf⟩ := zbind hf
    refine kb1 e1247 ?_
    exact cs_X4_shareOf_b41 E h hf
  · have hf := zif_f c1246 hf
    refine kif_f c1246 ?_
    obtain ⟨_, e1248, hf⟩ := zbind hf
    refine kb1 e1248 ?_
    exact cs_X4_shareOf_b41 E h hf
def c_X4_shareOf (E : zE) (N : iN) (p1 : Int32) (p2 : Int64) (p4 : Int32) (s : cT) (g : zH) : Option (Int64 × (cT × zH)) :=
  c_X4_shareOf_b0 E N p1 p2 p4 s g
theorem cs_X4_shareOf (E : zE) {s : cT} {g : zH} (h : iH p s g N) {p1 : Int32} {p2 : Int64} {p4 : Int32} (hf : c_X4_shareOf E N p1 p2 p4 s g = some (r, (s9, g9))) : f_X4_shareOf E (p.1 (N.1 + 10)) p1 p2 p4 (cH p s g) = some (r, cH p s9 g9) ∧ iH p s9 g9 N := by
  unfold c_X4_shareOf at hf
  unfold f_X4_shareOf
  exact cs_X4_shareOf_b0 E h hf
end
section
variable {p : cP} {N : iN} {r : Int64} {s9 : cT} {g9 : zH}
def c_X4_share_b132 (E : zE) (N : iN) (s0 : Int64) (s1 : Int64) (s : cT) (g : zH) : Option (Int64 × (cT × zH)) :=
  some ((s0 + s1), (s, g))
theorem cs_X4_share_b132 (E : zE) {s : cT} {g : zH} (h : iH p s g N) {s0 : Int64} {s1 : Int64} (hf : c_X4_share_b132 E N s0 s1 s g = some (r, (s9, g9))) : f_X4_share_b132 E s0 s1 (cH p s g) = some (r, cH p s9 g9) ∧ iH p s9 g9 N := by
  unfold c_X4_share_b132 at hf
  unfold f_X4_share_b132
  cases hf
  exact ⟨rfl, h⟩
def c_X4_share_b102 (E : zE) (N : iN) (k36 : Int32 → Int64 → Int64 → Int32 → Int64 → Int32 → cT → zH → Option (Int64 × (cT × zH))) (p1 : Int32) (p2 : Int64) (p4 : Int64) (p7 : Int64) (p9 : Int32) (s0 : Int32) (s1 : Int32) (s : cT) (g : zH) : Option (Int64 × (cT × zH)) :=
  k36 p1 p2 p4 (s0 + s1) p7 (p9 + 1) s g
theorem cs_X4_share_b102 (E : zE) {K36 : Nat → Int32 → Int64 → Int64 → Int32 → Int64 → Int32 → zH → Option (Int64 × zH)} {k36 : Int32 → Int64 → Int64 → Int32 → Int64 → Int32 → cT → zH → Option (Int64 × (cT × zH))} (hk36 : ∀ {s : cT} {g : zH} (h : iH p s g N) {p1 : Int32} {p2 : Int64} {p4 : Int64} {p6 : Int32} {p7 : Int64} {p9 : Int32}, k36 p1 p2 p4 p6 p7 p9 s g = some (r, (s9, g9)) → K36 (p.1 (N.1 + 10)) p1 p2 p4 p6 p7 p9 (cH p s g) = some (r, cH p s9 g9) ∧ iH p s9 g9 N) {s : cT} {g : zH} (h : iH p s g N) {p1 : Int32} {p2 : Int64} {p4 : Int64} {p7 : Int64} {p9 : Int32} {s0 : Int32} {s1 : Int32} (hf : c_X4_share_b102 E N k36 p1 p2 p4 p7 p9 s0 s1 s g = some (r, (s9, g9))) : f_X4_share_b102 E K36 (p.1 (N.1 + 10)) p1 p2 p4 p7 p9 s0 s1 (cH p s g) = some (r, cH p s9 g9) ∧ iH p s9 g9 N := by
  unfold c_X4_share_b102 at hf
  unfold f_X4_share_b102
  exact hk36 h hf
def c_X4_share_b97 (E : zE) (N : iN) (k36 : Int32 → Int64 → Int64 → Int32 → Int64 → Int32 → cT → zH → Option (Int64 × (cT × zH))) (p1 : Int32) (p2 : Int64) (p4 : Int64) (p7 : Int64) (p9 : Int32) (s0 : Int32) (s : cT) (g : zH) : Option (Int64 × (cT × zH)) :=
  c_X4_share_b102 E N k36 p1 p2 p4 p7 p9 s0 (1 : Int32) s g
theorem cs_X4_share_b97 (E : zE) {K36 : Nat → Int32 → Int64 → Int64 → Int32 → Int64 → Int32 → zH → Option (Int64 × zH)} {k36 : Int32 → Int64 → Int64 → Int32 → Int64 → Int32 → cT → zH → Option (Int64 × (cT × zH))} (hk36 : ∀ {s : cT} {g : zH} (h : iH p s g N) {p1 : Int32} {p2 : Int64} {p4 : Int64} {p6 : Int32} {p7 : Int64} {p9 : Int32}, k36 p1 p2 p4 p6 p7 p9 s g = some (r, (s9, g9)) → K36 (p.1 (N.1 + 10)) p1 p2 p4 p6 p7 p9 (cH p s g) = some (r, cH p s9 g9) ∧ iH p s9 g9 N) {s : cT} {g : zH} (h : iH p s g N) {p1 : Int32} {p2 : Int64} {p4 : Int64} {p7 : Int64} {p9 : Int32} {s0 : Int32} (hf : c_X4_share_b97 E N k36 p1 p2 p4 p7 p9 s0 s g = some (r, (s9, g9))) : f_X4_share_b97 E K36 (p.1 (N.1 + 10)) p1 p2 p4 p7 p9 s0 (cH p s g) = some (r, cH p s9 g9) ∧ iH p s9 g9 N := by
  unfold c_X4_share_b97 at hf
  unfold f_X4_share_b97
  exact cs_X4_share_b102 E hk36 h hf
def c_X4_share_b101 (E : zE) (N : iN) (k36 : Int32 → Int64 → Int64 → Int32 → Int64 → Int32 → cT → zH → Option (Int64 × (cT × zH))) (p1 : Int32) (p2 : Int64) (p4 : Int64) (p7 : Int64) (p9 : Int32) (s0 : Int32) (s : cT) (g : zH) : Option (Int64 × (cT × zH)) :=
  c_X4_share_b102 E N k36 p1 p2 p4 p7 p9 s0 (0 : Int32) s g
theorem cs_X4_share_b101 (E : zE) {K36 : Nat → Int32 → Int64 → Int64 → Int32 → Int64 → Int32 → zH → Option (Int64 × zH)} {k36 : Int32 → Int64 → Int64 → Int32 → Int64 → Int32 → cT → zH → Option (Int64 × (cT × zH))} (hk36 : ∀ {s : cT} {g : zH} (h : iH p s g N) {p1 : Int32} {p2 : Int64} {p4 : Int64} {p6 : Int32} {p7 : Int64} {p9 : Int32}, k36 p1 p2 p4 p6 p7 p9 s g = some (r, (s9, g9)) → K36 (p.1 (N.1 + 10)) p1 p2 p4 p6 p7 p9 (cH p s g) = some (r, cH p s9 g9) ∧ iH p s9 g9 N) {s : cT} {g : zH} (h : iH p s g N) {p1 : Int32} {p2 : Int64} {p4 : Int64} {p7 : Int64} {p9 : Int32} {s0 : Int32} (hf : c_X4_share_b101 E N k36 p1 p2 p4 p7 p9 s0 s g = some (r, (s9, g9))) : f_X4_share_b101 E K36 (p.1 (N.1 + 10)) p1 p2 p4 p7 p9 s0 (cH p s g) = some (r, cH p s9 g9) ∧ iH p s9 g9 N := by
  unfold c_X4_share_b101 at hf
  unfold f_X4_share_b101
  exact cs_X4_share_b102 E hk36 h hf
def c_X4_share_l36 (E : zE) (N : iN) : Nat → Int32 → Int64 → Int64 → Int32 → Int64 → Int32 → cT → zH → Option (Int64 × (cT × zH))
  | 0, _, _, _, _, _, _, _, _ => none
  | n + 1, p1, p2, p4, p6, p7, p9, s, g =>
    if (Int32.ofNat N.2.1) ≤ p9 then (
      bnd2 (c_X4_shareOf E N p1 p2 (0 : Int32) s g) fun x11 z1252 =>
      if p4 ≤ (p6.toInt64) then (
        c_X4_share_b132 E N x11 (0 : Int64) z1252.1 z1252.2
      ) else (
        c_X4_share_b132 E N x11 (1 : Int64) z1252.1 z1252.2
      )
    ) else (
      bnd2 (c_X4_shareOf E N p9 p2 (0 : Int32) s g) fun x16 z1256 =>
      bnd2 (c_X4_shareOf E N p9 p2 (1 : Int32) z1256.1 z1256.2) fun x20 z1259 =>
      if p7 < x20 then (
        c_X4_share_b97 E N (c_X4_share_l36 E N n) p1 p2 (p4 - x16) p7 p9 p6 z1259.1 z1259.2
      ) else (
        if x20 = p7 then (
          if p1 ≤ p9 then (
            c_X4_share_b101 E N (c_X4_share_l36 E N n) p1 p2 (p4 - x16) p7 p9 p6 z1259.1 z1259.2
          ) else (
            c_X4_share_b97 E N (c_X4_share_l36 E N n) p1 p2 (p4 - x16) p7 p9 p6 z1259.1 z1259.2
          )
        ) else (
          c_X4_share_b101 E N (c_X4_share_l36 E N n) p1 p2 (p4 - x16) p7 p9 p6 z1259.1 z1259.2
        )
      )
    )
theorem cs_X4_share_l36 (E : zE) : ∀ (n : Nat) {s : cT} {g : zH} (h : iH p s g N) {p1 : Int32} {p2 : Int64} {p4 : Int64} {p6 : Int32} {p7 : Int64} {p9 : Int32}, c_X4_share_l36 E N n p1 p2 p4 p6 p7 p9 s g = some (r, (s9, g9)) → f_X4_share_l36 E n (p.1 (N.1 + 10)) p1 p2 p4 p6 p7 p9 (cH p s g) = some (r, cH p s9 g9) ∧ iH p s9 g9 N := by
  intro n
  induction n with
  | zero =>
    intro s g h p1 p2 p4 p6 p7 p9 hf
    cases hf
  | succ n ih =>
    intro s g h p1 p2 p4 p6 p7 p9 hf
    unfold c_X4_share_l36 at hf
    unfold f_X4_share_l36
    refine kb1 (a_Bk_R0 h) ?_
    refine kb1 (a_FL_ck h) ?_
    refine kbc (a_FL_n h E) ?_
    by_cases c1250 : (Int32.ofNat N.2.1) ≤ p9
    · have hf := zif_t c1250 hf
      refine kif_t c1250 ?_
      refine kb1 (a_Bk_ck h) ?_
      obtain ⟨x11, z1252, e1251, hf⟩ := zbind2 hf
      obtain ⟨e1251, h⟩ := cs_X4_shareOf E h e1251
      refine kbc e1251 ?_
      by_cases c1254 : p4 ≤ (p6.toInt64)
      · have hf := zif_t c1254 hf
        refine kif_t c1254 ?_
        exact cs_X4_share_b132 E h hf
      · have hf := zif_f c1254 hf
        refine kif_f c1254 ?_
        exact cs_X4_share_b132 E h hf
    · have hf := zif_f c1250 hf
      refine kif_f c1250 ?_
      refine kb1 (a_Bk_ck h) ?_
      obtain ⟨x16, z1256, e1255, hf⟩ := zbind2 hf
      obtain ⟨e1255, h⟩ := cs_X4_shareOf E h e1255
      refine kbc e1255 ?_
      refine kb1 (a_Bk_ck h) ?_
      obtain ⟨x20, z1259, e1258, hf⟩ := zbind2 hf
      obtain ⟨e1258, h⟩ := cs_X4_shareOf E h e1258
      refine kbc e1258 ?_
      by_cases c1261 : p7 < x20
      · have hf := zif_t c1261 hf
        refine kif_t c1261 ?_
        exact cs_X4_share_b97 E ih h hf
      · have hf := zif_f c1261 hf
        refine kif_f c1261 ?_
        by_cases c1262 : x20 = p7
        · have hf := zif_t c1262 hf
          refine kif_t c1262 ?_
          by_cases c1263 : p1 ≤ p9
          · have hf := zif_t c1263 hf
            refine kif_t c1263 ?_
            exact cs_X4_share_b101 E ih h hf
          · have hf := zif_f c1263 hf
            refine kif_f c1263 ?_
            exact cs_X4_share_b97 E ih h hf
        · have hf := zif_f c1262 hf
          refine kif_f c1262 ?_
          exact cs_X4_share_b101 E ih h hf
def c_X4_share_b0 (E : zE) (N : iN) (p1 : Int32) (s : cT) (g : zH) : Option (Int64 × (cT × zH)) :=
  bnd2 (c_X4_contributions E N s g) fun x4 z1265 =>
  if x4 = (0 : Int64) then (
    some ((0 : Int64), (z1265.1, z1265.2))
  ) else (
    (cdL z1265.1 (N.1 + 20) 3 (1 : Int32)).bind fun x8 =>
    bnd2 (c_X4_shareOf E N p1 x4 (1 : Int32) z1265.1 z1265.2) fun x13 z1271 =>
    c_X4_share_l36 E N E.1 p1 x4 x8 (0 : Int32) x13 (0 : Int32) z1271.1 z1271.2
  )
theorem cs_X4_share_b0 (E : zE) {s : cT} {g : zH} (h : iH p s g N) {p1 : Int32} (hf : c_X4_share_b0 E N p1 s g = some (r, (s9, g9))) : f_X4_share_b0 E (p.1 (N.1 + 10)) p1 (cH p s g) = some (r, cH p s9 g9) ∧ iH p s9 g9 N := by
  unfold c_X4_share_b0 at hf
  unfold f_X4_share_b0
  refine kb1 (a_Bk_ck h) ?_
  obtain ⟨x4, z1265, e1264, hf⟩ := zbind2 hf
  obtain ⟨e1264, h⟩ := cs_X4_contributions E h e1264
  refine kbc e1264 ?_
  by_cases c1267 : x4 = (0 : Int64)
  · have hf := zif_t c1267 hf
    refine kif_t c1267 ?_
    cases hf
    exact ⟨rfl, h⟩
  · have hf := zif_f c1267 hf
    refine kif_f c1267 ?_
    refine kb1 (a_Bk_R4 h) ?_
    obtain ⟨x8, e1268, hf⟩ := zbind hf
    obtain ⟨hj1269, e1268⟩ := cdL_spec e1268
    refine kb1 ((a_spe_d h hj1269).trans (congrArg some e1268)) ?_
    refine kb1 (a_Bk_ck h) ?_
    obtain ⟨x13, z1271, e1270, hf⟩ := zbind2 hf
    obtain ⟨e1270, h⟩ := cs_X4_shareOf E h e1270
    refine kbc e1270 ?_
    exact cs_X4_share_l36 E E.1 h hf
def c_X4_share (E : zE) (N : iN) (p1 : Int32) (s : cT) (g : zH) : Option (Int64 × (cT × zH)) :=
  c_X4_share_b0 E N p1 s g
theorem cs_X4_share (E : zE) {s : cT} {g : zH} (h : iH p s g N) {p1 : Int32} (hf : c_X4_share E N p1 s g = some (r, (s9, g9))) : f_X4_share E (p.1 (N.1 + 10)) p1 (cH p s g) = some (r, cH p s9 g9) ∧ iH p s9 g9 N := by
  unfold c_X4_share at hf
  unfold f_X4_share
  exact cs_X4_share_b0 E h hf
end
section
variable {p : cP} {N : iN} {r : (Int64 ⊕ (Nat × Nat))} {s9 : cT} {g9 : zH}
def c_X1_nationalShare_b0 (E : zE) (N : iN) (p1 : Int32) (s : cT) (g : zH) : Option ((Int64 ⊕ (Nat × Nat)) × (cT × zH)) :=
  bnd2 (nA g 3 (1 : Int32) (.inl fun _ => 0)) fun q1 g1274 =>
  bnd2 (c_X1_isFranchisee E N p1 s g1274) fun x7 z1276 =>
  (zgd .boolean x7).bind fun _ =>
  (sI z1276.2 q1 3 (0 : Int32) x7).bind fun g1280 =>
  bnd2 (c_X1_requireIndex E N q1 z1276.1 g1280) fun x13 z1282 =>
  Sum.elim (fun x14 => (
    bnd2 (c_X4_share E N p1 z1282.1 z1282.2) fun x21 z1285 =>
    some (.inl x21, (z1285.1, z1285.2))
  )) (fun q15 => (
    some (.inr q15, (z1282.1, z1282.2))
  )) x13
theorem cs_X1_nationalShare_b0 (E : zE) {s : cT} {g : zH} (h : iH p s g N) {p1 : Int32} (hf : c_X1_nationalShare_b0 E N p1 s g = some (r, (s9, g9))) : f_X1_nationalShare_b0 E (p.1 1) p1 (cH p s g) = some (r, cH p s9 g9) ∧ iH p s9 g9 N := by
  unfold c_X1_nationalShare_b0 at hf
  unfold f_X1_nationalShare_b0
  obtain ⟨q1, g1274, e1273, hf⟩ := zbind2 hf
  have hq_q1 := hq_nA h e1273
  refine kbc (k_nA h e1273) ?_
  have h := iH_g h (gle_nA e1273)
  refine kb1 (a_X_ck h) ?_
  obtain ⟨x7, z1276, e1275, hf⟩ := zbind2 hf
  obtain ⟨e1275, h⟩ := cs_X1_isFranchisee E h e1275
  refine kbc e1275 ?_
  obtain ⟨_, e1278, hf⟩ := zbind hf
  refine kb1 e1278 ?_
  obtain ⟨g1280, e1279, hf⟩ := zbind hf
  refine kb1 ((r_sI hq_q1 _ _ _).trans (congrArg (Option.map (cH p _)) e1279)) ?_
  have h := iH_g h (gle_sI e1279)
  obtain ⟨x13, z1282, e1281, hf⟩ := zbind2 hf
  obtain ⟨e1281, h⟩ := cs_X1_requireIndex E h hq_q1 e1281
  refine kbc e1281 ?_
  rcases x13 with x14 | q15
  · have hf := zinl hf
    refine kel0_l ?_
    refine kb1 (a_X_R1 h) ?_
    refine kb1 (a_Bk_ck h) ?_
    obtain ⟨x21, z1285, e1284, hf⟩ := zbind2 hf
    obtain ⟨e1284, h⟩ := cs_X4_share E h e1284
    refine kbc e1284 ?_
    cases hf
    exact ⟨rfl, h⟩
  · have hf := zinr hf
    refine kel0_r ?_
    cases hf
    exact ⟨rfl, h⟩
def c_X1_nationalShare (E : zE) (N : iN) (p1 : Int32) (s : cT) (g : zH) : Option ((Int64 ⊕ (Nat × Nat)) × (cT × zH)) :=
  c_X1_nationalShare_b0 E N p1 s g
theorem cs_X1_nationalShare (E : zE) {s : cT} {g : zH} (h : iH p s g N) {p1 : Int32} (hf : c_X1_nationalShare E N p1 s g = some (r, (s9, g9))) : f_X1_nationalShare E (p.1 1) p1 (cH p s g) = some (r, cH p s9 g9) ∧ iH p s9 g9 N := by
  unfold c_X1_nationalShare at hf
  unfold f_X1_nationalShare
  exact cs_X1_nationalShare_b0 E h hf
end
section
variable {p : cP} {N : iN} {r : Unit} {s9 : cT} {g9 : zH}
def c_X12_request_b0 (E : zE) (N : iN) (p0 : Nat) (p1 : Int32) (p2 : Int32) (p3 : Int64) (s : cT) (g : zH) : Option (Unit × (cT × zH)) :=
  some ((), ((uI (uI (uI (uL (uI (uI (uI s (N.1 + 140 + p0) 0 (1 : Int32)) (N.1 + 140 + p0) 1 p1) (N.1 + 140 + p0) 2 p2) (N.1 + 140 + p0) 6 p3) (N.1 + 140 + p0) 3 (0 : Int32)) (N.1 + 140 + p0) 4 (0 : Int32)) (N.1 + 140 + p0) 5 (0 : Int32)), g))
theorem cs_X12_request_b0 (E : zE) {s : cT} {g : zH} (h : iH p s g N) {p0 : Nat} {p1 : Int32} {p2 : Int32} {p3 : Int64} (hi_p0 : p0 < N.2.1) (hf : c_X12_request_b0 E N p0 p1 p2 p3 s g = some (r, (s9, g9))) : f_X12_request_b0 E (p.1 (N.1 + 140 + p0)) p1 p2 p3 (cH p s g) = some (r, cH p s9 g9) ∧ iH p s9 g9 N := by
  unfold c_X12_request_b0 at hf
  unfold f_X12_request_b0
  refine kb1 (a_Tr_pI0 h hi_p0 _) ?_
  have h := iH_uI h (d := (N.1 + 140 + p0)) (by have := h.2.2.2.2.2; exact ⟨by omega, by omega, by omega, fun _ _ => by omega⟩) 0 (1 : Int32)
  refine kb1 (a_Tr_pI1 h hi_p0 _) ?_
  have h := iH_uI h (d := (N.1 + 140 + p0)) (by have := h.2.2.2.2.2; exact ⟨by omega, by omega, by omega, fun _ _ => by omega⟩) 1 p1
  refine kb1 (a_Tr_pI2 h hi_p0 _) ?_
  have h := iH_uI h (d := (N.1 + 140 + p0)) (by have := h.2.2.2.2.2; exact ⟨by omega, by omega, by omega, fun _ _ => by omega⟩) 2 p2
  refine kb1 (a_Tr_pL6 h hi_p0 _) ?_
  have h := iH_uL h (N.1 + 140 + p0) 6 p3
  refine kb1 (a_Tr_pI3 h hi_p0 _) ?_
  have h := iH_uI h (d := (N.1 + 140 + p0)) (by have := h.2.2.2.2.2; exact ⟨by omega, by omega, by omega, fun _ _ => by omega⟩) 3 (0 : Int32)
  refine kb1 (a_Tr_pI4 h hi_p0 _) ?_
  have h := iH_uI h (d := (N.1 + 140 + p0)) (by have := h.2.2.2.2.2; exact ⟨by omega, by omega, by omega, fun _ _ => by omega⟩) 4 (0 : Int32)
  refine kb1 (a_Tr_pI5 h hi_p0 _) ?_
  have h := iH_uI h (d := (N.1 + 140 + p0)) (by have := h.2.2.2.2.2; exact ⟨by omega, by omega, by omega, fun _ _ => by omega⟩) 5 (0 : Int32)
  cases hf
  exact ⟨rfl, h⟩
def c_X12_request (E : zE) (N : iN) (p0 : Nat) (p1 : Int32) (p2 : Int32) (p3 : Int64) (s : cT) (g : zH) : Option (Unit × (cT × zH)) :=
  c_X12_request_b0 E N p0 p1 p2 p3 s g
theorem cs_X12_request (E : zE) {s : cT} {g : zH} (h : iH p s g N) {p0 : Nat} {p1 : Int32} {p2 : Int32} {p3 : Int64} (hi_p0 : p0 < N.2.1) (hf : c_X12_request E N p0 p1 p2 p3 s g = some (r, (s9, g9))) : f_X12_request E (p.1 (N.1 + 140 + p0)) p1 p2 p3 (cH p s g) = some (r, cH p s9 g9) ∧ iH p s9 g9 N := by
  unfold c_X12_request at hf
  unfold f_X12_request
  exact cs_X12_request_b0 E h hi_p0 hf
end
section
variable {p : cP} {N : iN} {r : (Int32 ⊕ (Nat × Nat))} {s9 : cT} {g9 : zH}
def c_X1_requestTransfer_b76 (E : zE) (N : iN) (s : cT) (g : zH) : Option ((Int32 ⊕ (Nat × Nat)) × (cT × zH)) :=
  some (.inl (0 : Int32), (s, g))
theorem cs_X1_requestTransfer_b76 (E : zE) {s : cT} {g : zH} (h : iH p s g N) (hf : c_X1_requestTransfer_b76 E N  s g = some (r, (s9, g9))) : f_X1_requestTransfer_b76 E  (cH p s g) = some (r, cH p s9 g9) ∧ iH p s9 g9 N := by
  unfold c_X1_requestTransfer_b76 at hf
  unfold f_X1_requestTransfer_b76
  cases hf
  exact ⟨rfl, h⟩
def c_X1_requestTransfer_b0 (E : zE) (N : iN) (p1 : Int32) (p2 : Int32) (p3 : Int64) (s : cT) (g : zH) : Option ((Int32 ⊕ (Nat × Nat)) × (cT × zH)) :=
  bnd2 (c_X1_franchisee E N p1 s g) fun x4 z1288 =>
  Sum.elim (fun x5 => (
    bnd2 (nA z1288.2 3 (2 : Int32) (.inl fun _ => 0)) fun q7 g1291 =>
    (zgd .boolean (if (0 : Int64) ≤ (p2.toInt64) ∧ (p2.toInt64) ≤ (999 : Int64) then (1 : Int32) else 0)).bind fun _ =>
    (sI g1291 q7 3 (0 : Int32) (if (0 : Int64) ≤ (p2.toInt64) ∧ (p2.toInt64) ≤ (999 : Int64) then (1 : Int32) else 0)).bind fun g1295 =>
    (zgd .boolean (if (0 : Int64) ≤ p3 ∧ p3 ≤ (1000000000 : Int64) then (1 : Int32) else 0)).bind fun _ =>
    (sI g1295 q7 3 (1 : Int32) (if (0 : Int64) ≤ p3 ∧ p3 ≤ (1000000000 : Int64) then (1 : Int32) else 0)).bind fun g1299 =>
    bnd2 (c_X1_requireArguments E N q7 z1288.1 g1299) fun x24 z1301 =>
    Sum.elim (fun x25 => (
      bnd2 (c_X11_isActive E N x5 z1301.1 z1301.2) fun x30 z1304 =>
      if x30 = 0 then (
        c_X1_requestTransfer_b76 E N z1304.1 z1304.2
      ) else (
        bnd2 (c_X12_isOpen E N x5 z1304.1 z1304.2) fun x37 z1308 =>
        if x37 = 0 then (
          if (0 : Int64) < (z1308.1.2.2.1 (N.1 + 130 + x5) 8) then (
            c_X1_requestTransfer_b76 E N z1308.1 z1308.2
          ) else (
            if (z1308.1.2.1 2 8) ≤ p2 then (
              bnd2 (c_X12_request E N x5 (z1308.1.2.1 (N.1 + 10) 5) p2 p3 z1308.1 z1308.2) fun x56 z1314 =>
              some (.inl (1 : Int32), (z1314.1, z1314.2))
            ) else (
              c_X1_requestTransfer_b76 E N z1308.1 z1308.2
            )
          )
        ) else (
          c_X1_requestTransfer_b76 E N z1308.1 z1308.2
        )
      )
    )) (fun q26 => (
      some (.inr q26, (z1301.1, z1301.2))
    )) x24
  )) (fun q6 => (
    some (.inr q6, (z1288.1, z1288.2))
  )) x4
theorem cs_X1_requestTransfer_b0 (E : zE) {s : cT} {g : zH} (h : iH p s g N) {p1 : Int32} {p2 : Int32} {p3 : Int64} (hf : c_X1_requestTransfer_b0 E N p1 p2 p3 s g = some (r, (s9, g9))) : f_X1_requestTransfer_b0 E (p.1 1) p1 p2 p3 (cH p s g) = some (r, cH p s9 g9) ∧ iH p s9 g9 N := by
  unfold c_X1_requestTransfer_b0 at hf
  unfold f_X1_requestTransfer_b0
  refine kb1 (a_X_ck h) ?_
  obtain ⟨x4, z1288, e1287, hf⟩ := zbind2 hf
  obtain ⟨e1287, h, hr_x4⟩ := cs_X1_franchisee E h e1287
  refine kbc e1287 ?_
  rcases x4 with x5 | q6
  · have hf := zinl hf
    have hi_x5 := hr_x4 _ rfl
    refine kel_l ?_
    obtain ⟨q7, g1291, e1290, hf⟩ := zbind2 hf
    have hq_q7 := hq_nA h e1290
    refine kbc (k_nA h e1290) ?_
    have h := iH_g h (gle_nA e1290)
    refine kbc (b_inRange _ _ _ _ _) ?_
    obtain ⟨_, e1293, hf⟩ := zbind hf
    refine kb1 e1293 ?_
    obtain ⟨g1295, e1294, hf⟩ := zbind hf
    refine kb1 ((r_sI hq_q7 _ _ _).trans (congrArg (Option.map (cH p _)) e1294)) ?_
    have h := iH_g h (gle_sI e1294)
    refine kbc (b_inRange _ _ _ _ _) ?_
    obtain ⟨_, e1297, hf⟩ := zbind hf
    refine kb1 e1297 ?_
    obtain ⟨g1299, e1298, hf⟩ := zbind hf
    refine kb1 ((r_sI hq_q7 _ _ _).trans (congrArg (Option.map (cH p _)) e1298)) ?_
    have h := iH_g h (gle_sI e1298)
    obtain ⟨x24, z1301, e1300, hf⟩ := zbind2 hf
    obtain ⟨e1300, h⟩ := cs_X1_requireArguments E h hq_q7 e1300
    refine kbc e1300 ?_
    rcases x24 with x25 | q26
    · have hf := zinl hf
      refine kel0_l ?_
      refine kb1 (a_Fr_ck h hi_x5) ?_
      obtain ⟨x30, z1304, e1303, hf⟩ := zbind2 hf
      obtain ⟨e1303, h⟩ := cs_X11_isActive E h hi_x5 e1303
      refine kbc e1303 ?_
      by_cases c1306 : x30 = 0
      · have hf := zif_t c1306 hf
        refine kif_t c1306 ?_
        exact cs_X1_requestTransfer_b76 E h hf
      · have hf := zif_f c1306 hf
        refine kif_f c1306 ?_
        refine kb1 (a_Fr_R0 h hi_x5) ?_
        refine kb1 (a_Tr_ck h hi_x5) ?_
        obtain ⟨x37, z1308, e1307, hf⟩ := zbind2 hf
        obtain ⟨e1307, h⟩ := cs_X12_isOpen E h hi_x5 e1307
        refine kbc e1307 ?_
        by_cases c1310 : x37 = 0
        · have hf := zif_t c1310 hf
          refine kif_t c1310 ?_
          refine kb1 (a_Fr_L8 h hi_x5) ?_
          by_cases c1311 : (0 : Int64) < (z1308.1.2.2.1 (N.1 + 130 + x5) 8)
          · have hf := zif_t c1311 hf
            refine kif_t c1311 ?_
            exact cs_X1_requestTransfer_b76 E h hf
          · have hf := zif_f c1311 hf
            refine kif_f c1311 ?_
            refine kb1 (a_X_R0 h) ?_
            refine kb1 (a_Ru_I8 h) ?_
            by_cases c1312 : (z1308.1.2.1 2 8) ≤ p2
            · have hf := zif_t c1312 hf
              refine kif_t c1312 ?_
              refine kb1 (a_Fr_R0 h hi_x5) ?_
              refine kb1 (a_X_R1 h) ?_
              refine kb1 (a_Bk_I5 h) ?_
              refine kb1 (a_Tr_ck h hi_x5) ?_
              obtain ⟨x56, z1314, e1313, hf⟩ := zbind2 hf
              obtain ⟨e1313, h⟩ := cs_X12_request E h hi_x5 e1313
              refine kbc e1313 ?_
              cases hf
              exact ⟨rfl, h⟩
            · have hf := zif_f c1312 hf
              refine kif_f c1312 ?_
              exact cs_X1_requestTransfer_b76 E h hf
        · have hf := zif_f c1310 hf
          refine kif_f c1310 ?_
          exact cs_X1_requestTransfer_b76 E h hf
    · have hf := zinr hf
      refine kel0_r ?_
      cases hf
      exact ⟨rfl, h⟩
  · have hf := zinr hf
    refine kel_r ?_
    cases hf
    exact ⟨rfl, h⟩
def c_X1_requestTransfer (E : zE) (N : iN) (p1 : Int32) (p2 : Int32) (p3 : Int64) (s : cT) (g : zH) : Option ((Int32 ⊕ (Nat × Nat)) × (cT × zH)) :=
  c_X1_requestTransfer_b0 E N p1 p2 p3 s g
theorem cs_X1_requestTransfer (E : zE) {s : cT} {g : zH} (h : iH p s g N) {p1 : Int32} {p2 : Int32} {p3 : Int64} (hf : c_X1_requestTransfer E N p1 p2 p3 s g = some (r, (s9, g9))) : f_X1_requestTransfer E (p.1 1) p1 p2 p3 (cH p s g) = some (r, cH p s9 g9) ∧ iH p s9 g9 N := by
  unfold c_X1_requestTransfer at hf
  unfold f_X1_requestTransfer
  exact cs_X1_requestTransfer_b0 E h hf
end
section
variable {p : cP} {N : iN} {r : (Int32 ⊕ (Nat × Nat))} {s9 : cT} {g9 : zH}
def c_X1_exercise_b41 (E : zE) (N : iN) (s : cT) (g : zH) : Option ((Int32 ⊕ (Nat × Nat)) × (cT × zH)) :=
  some (.inl (0 : Int32), (s, g))
theorem cs_X1_exercise_b41 (E : zE) {s : cT} {g : zH} (h : iH p s g N) (hf : c_X1_exercise_b41 E N  s g = some (r, (s9, g9))) : f_X1_exercise_b41 E  (cH p s g) = some (r, cH p s9 g9) ∧ iH p s9 g9 N := by
  unfold c_X1_exercise_b41 at hf
  unfold f_X1_exercise_b41
  cases hf
  exact ⟨rfl, h⟩
def c_X1_exercise_b0 (E : zE) (N : iN) (p1 : Int32) (s : cT) (g : zH) : Option ((Int32 ⊕ (Nat × Nat)) × (cT × zH)) :=
  bnd2 (c_X1_franchisee E N p1 s g) fun x4 z1317 =>
  Sum.elim (fun x5 => (
    bnd2 (c_X12_isOpen E N x5 z1317.1 z1317.2) fun x12 z1320 =>
    if x12 = 0 then (
      c_X1_exercise_b41 E N z1320.1 z1320.2
    ) else (
      if ((z1320.1.2.1 (N.1 + 10) 5) - (z1320.1.2.1 (N.1 + 140 + x5) 1)) < (z1320.1.2.1 2 7) then (
        some (.inl (1 : Int32), ((uL (uI (uI z1320.1 (N.1 + 140 + x5) 0 (5 : Int32)) (N.1 + 130 + x5) 5 (2 : Int32)) (N.1 + 130 + x5) 8 (((uI (uI z1320.1 (N.1 + 140 + x5) 0 (5 : Int32)) (N.1 + 130 + x5) 5 (2 : Int32)).2.2.1 (N.1 + 130 + x5) 8) - ((uI (uI z1320.1 (N.1 + 140 + x5) 0 (5 : Int32)) (N.1 + 130 + x5) 5 (2 : Int32)).2.2.1 (N.1 + 140 + x5) 6))), z1320.2))
      ) else (
        c_X1_exercise_b41 E N z1320.1 z1320.2
      )
    )
  )) (fun q6 => (
    some (.inr q6, (z1317.1, z1317.2))
  )) x4
theorem cs_X1_exercise_b0 (E : zE) {s : cT} {g : zH} (h : iH p s g N) {p1 : Int32} (hf : c_X1_exercise_b0 E N p1 s g = some (r, (s9, g9))) : f_X1_exercise_b0 E (p.1 1) p1 (cH p s g) = some (r, cH p s9 g9) ∧ iH p s9 g9 N := by
  unfold c_X1_exercise_b0 at hf
  unfold f_X1_exercise_b0
  refine kb1 (a_X_ck h) ?_
  obtain ⟨x4, z1317, e1316, hf⟩ := zbind2 hf
  obtain ⟨e1316, h, hr_x4⟩ := cs_X1_franchisee E h e1316
  refine kbc e1316 ?_
  rcases x4 with x5 | q6
  · have hf := zinl hf
    have hi_x5 := hr_x4 _ rfl
    refine kel_l ?_
    refine kb1 (a_Fr_R0 h hi_x5) ?_
    refine kb1 (a_Tr_ck h hi_x5) ?_
    obtain ⟨x12, z1320, e1319, hf⟩ := zbind2 hf
    obtain ⟨e1319, h⟩ := cs_X12_isOpen E h hi_x5 e1319
    refine kbc e1319 ?_
    by_cases c1322 : x12 = 0
    · have hf := zif_t c1322 hf
      refine kif_t c1322 ?_
      exact cs_X1_exercise_b41 E h hf
    · have hf := zif_f c1322 hf
      refine kif_f c1322 ?_
      refine kb1 (a_X_R1 h) ?_
      refine kb1 (a_Bk_I5 h) ?_
      refine kb1 (a_Fr_R0 h hi_x5) ?_
      refine kb1 (a_Tr_I1 h hi_x5) ?_
      refine kb1 (a_X_R0 h) ?_
      refine kb1 (a_Ru_I7 h) ?_
      by_cases c1323 : ((z1320.1.2.1 (N.1 + 10) 5) - (z1320.1.2.1 (N.1 + 140 + x5) 1)) < (z1320.1.2.1 2 7)
      · have hf := zif_t c1323 hf
        refine kif_t c1323 ?_
        refine kb1 (a_Fr_R0 h hi_x5) ?_
        refine kb1 (a_Tr_pI0 h hi_x5 _) ?_
        have h := iH_uI h (d := (N.1 + 140 + x5)) (by have := h.2.2.2.2.2; exact ⟨by omega, by omega, by omega, fun _ _ => by omega⟩) 0 (5 : Int32)
        refine kb1 (a_Fr_pI5 h hi_x5 _) ?_
        have h := iH_uI h (d := (N.1 + 130 + x5)) (by have := h.2.2.2.2.2; exact ⟨by omega, by omega, by omega, fun _ _ => by omega⟩) 5 (2 : Int32)
        refine kb1 (a_Fr_L8 h hi_x5) ?_
        refine kb1 (a_Fr_R0 h hi_x5) ?_
        refine kb1 (a_Tr_L6 h hi_x5) ?_
        refine kb1 (a_Fr_pL8 h hi_x5 _) ?_
        have h := iH_uL h (N.1 + 130 + x5) 8 (((uI (uI z1320.1 (N.1 + 140 + x5) 0 (5 : Int32)) (N.1 + 130 + x5) 5 (2 : Int32)).2.2.1 (N.1 + 130 + x5) 8) - ((uI (uI z1320.1 (N.1 + 140 + x5) 0 (5 : Int32)) (N.1 + 130 + x5) 5 (2 : Int32)).2.2.1 (N.1 + 140 + x5) 6))
        cases hf
        exact ⟨rfl, h⟩
      · have hf := zif_f c1323 hf
        refine kif_f c1323 ?_
        exact cs_X1_exercise_b41 E h hf
  · have hf := zinr hf
    refine kel_r ?_
    cases hf
    exact ⟨rfl, h⟩
def c_X1_exercise (E : zE) (N : iN) (p1 : Int32) (s : cT) (g : zH) : Option ((Int32 ⊕ (Nat × Nat)) × (cT × zH)) :=
  c_X1_exercise_b0 E N p1 s g
theorem cs_X1_exercise (E : zE) {s : cT} {g : zH} (h : iH p s g N) {p1 : Int32} (hf : c_X1_exercise E N p1 s g = some (r, (s9, g9))) : f_X1_exercise E (p.1 1) p1 (cH p s g) = some (r, cH p s9 g9) ∧ iH p s9 g9 N := by
  unfold c_X1_exercise at hf
  unfold f_X1_exercise
  exact cs_X1_exercise_b0 E h hf
end
section
variable {p : cP} {N : iN} {r : (Int32 ⊕ (Nat × Nat))} {s9 : cT} {g9 : zH}
def c_X1_withdraw_b0 (E : zE) (N : iN) (p1 : Int32) (s : cT) (g : zH) : Option ((Int32 ⊕ (Nat × Nat)) × (cT × zH)) :=
  bnd2 (c_X1_franchisee E N p1 s g) fun x4 z1325 =>
  Sum.elim (fun x5 => (
    bnd2 (c_X12_isOpen E N x5 z1325.1 z1325.2) fun x12 z1328 =>
    if x12 = 0 then (
      some (.inl (0 : Int32), (z1328.1, z1328.2))
    ) else (
      some (.inl (1 : Int32), ((uI z1328.1 (N.1 + 140 + x5) 0 (0 : Int32)), z1328.2))
    )
  )) (fun q6 => (
    some (.inr q6, (z1325.1, z1325.2))
  )) x4
theorem cs_X1_withdraw_b0 (E : zE) {s : cT} {g : zH} (h : iH p s g N) {p1 : Int32} (hf : c_X1_withdraw_b0 E N p1 s g = some (r, (s9, g9))) : f_X1_withdraw_b0 E (p.1 1) p1 (cH p s g) = some (r, cH p s9 g9) ∧ iH p s9 g9 N := by
  unfold c_X1_withdraw_b0 at hf
  unfold f_X1_withdraw_b0
  refine kb1 (a_X_ck h) ?_
  obtain ⟨x4, z1325, e1324, hf⟩ := zbind2 hf
  obtain ⟨e1324, h, hr_x4⟩ := cs_X1_franchisee E h e1324
  refine kbc e1324 ?_
  rcases x4 with x5 | q6
  · have hf := zinl hf
    have hi_x5 := hr_x4 _ rfl
    refine kel_l ?_
    refine kb1 (a_Fr_R0 h hi_x5) ?_
    refine kb1 (a_Tr_ck h hi_x5) ?_
    obtain ⟨x12, z1328, e1327, hf⟩ := zbind2 hf
    obtain ⟨e1327, h⟩ := cs_X12_isOpen E h hi_x5 e1327
    refine kbc e1327 ?_
    by_cases c1330 : x12 = 0
    · have hf := zif_t c1330 hf
      refine kif_t c1330 ?_
      cases hf
      exact ⟨rfl, h⟩
    · have hf := zif_f c1330 hf
      refine kif_f c1330 ?_
      refine kb1 (a_Fr_R0 h hi_x5) ?_
      refine kb1 (a_Tr_pI0 h hi_x5 _) ?_
      have h := iH_uI h (d := (N.1 + 140 + x5)) (by have := h.2.2.2.2.2; exact ⟨by omega, by omega, by omega, fun _ _ => by omega⟩) 0 (0 : Int32)
      cases hf
      exact ⟨rfl, h⟩
  · have hf := zinr hf
    refine kel_r ?_
    cases hf
    exact ⟨rfl, h⟩
def c_X1_withdraw (E : zE) (N : iN) (p1 : Int32) (s : cT) (g : zH) : Option ((Int32 ⊕ (Nat × Nat)) × (cT × zH)) :=
  c_X1_withdraw_b0 E N p1 s g
theorem cs_X1_withdraw (E : zE) {s : cT} {g : zH} (h : iH p s g N) {p1 : Int32} (hf : c_X1_withdraw E N p1 s g = some (r, (s9, g9))) : f_X1_withdraw E (p.1 1) p1 (cH p s g) = some (r, cH p s9 g9) ∧ iH p s9 g9 N := by
  unfold c_X1_withdraw at hf
  unfold f_X1_withdraw
  exact cs_X1_withdraw_b0 E h hf
end
section
variable {p : cP} {N : iN} {r : (Int32 ⊕ (Nat × Nat))} {s9 : cT} {g9 : zH}
def c_X1_transferState_b0 (E : zE) (N : iN) (p1 : Int32) (s : cT) (g : zH) : Option ((Int32 ⊕ (Nat × Nat)) × (cT × zH)) :=
  bnd2 (c_X1_franchisee E N p1 s g) fun x4 z1332 =>
  Sum.elim (fun x5 => (
    some (.inl (z1332.1.2.1 (N.1 + 140 + x5) 0), (z1332.1, z1332.2))
  )) (fun q6 => (
    some (.inr q6, (z1332.1, z1332.2))
  )) x4
theorem cs_X1_transferState_b0 (E : zE) {s : cT} {g : zH} (h : iH p s g N) {p1 : Int32} (hf : c_X1_transferState_b0 E N p1 s g = some (r, (s9, g9))) : f_X1_transferState_b0 E (p.1 1) p1 (cH p s g) = some (r, cH p s9 g9) ∧ iH p s9 g9 N := by
  unfold c_X1_transferState_b0 at hf
  unfold f_X1_transferState_b0
  refine kb1 (a_X_ck h) ?_
  obtain ⟨x4, z1332, e1331, hf⟩ := zbind2 hf
  obtain ⟨e1331, h, hr_x4⟩ := cs_X1_franchisee E h e1331
  refine kbc e1331 ?_
  rcases x4 with x5 | q6
  · have hf := zinl hf
    have hi_x5 := hr_x4 _ rfl
    refine kel_l ?_
    refine kb1 (a_Fr_R0 h hi_x5) ?_
    refine kb1 (a_Tr_I0 h hi_x5) ?_
    cases hf
    exact ⟨rfl, h⟩
  · have hf := zinr hf
    refine kel_r ?_
    cases hf
    exact ⟨rfl, h⟩
def c_X1_transferState (E : zE) (N : iN) (p1 : Int32) (s : cT) (g : zH) : Option ((Int32 ⊕ (Nat × Nat)) × (cT × zH)) :=
  c_X1_transferState_b0 E N p1 s g
theorem cs_X1_transferState (E : zE) {s : cT} {g : zH} (h : iH p s g N) {p1 : Int32} (hf : c_X1_transferState E N p1 s g = some (r, (s9, g9))) : f_X1_transferState E (p.1 1) p1 (cH p s g) = some (r, cH p s9 g9) ∧ iH p s9 g9 N := by
  unfold c_X1_transferState at hf
  unfold f_X1_transferState
  exact cs_X1_transferState_b0 E h hf
end
section
variable {p : cP} {N : iN} {r : (Int32 ⊕ (Nat × Nat))} {s9 : cT} {g9 : zH}
def c_X1_transferWait_b44 (E : zE) (N : iN) (s0 : Int32) (s : cT) (g : zH) : Option ((Int32 ⊕ (Nat × Nat)) × (cT × zH)) :=
  some (.inl s0, (s, g))
theorem cs_X1_transferWait_b44 (E : zE) {s : cT} {g : zH} (h : iH p s g N) {s0 : Int32} (hf : c_X1_transferWait_b44 E N s0 s g = some (r, (s9, g9))) : f_X1_transferWait_b44 E s0 (cH p s g) = some (r, cH p s9 g9) ∧ iH p s9 g9 N := by
  unfold c_X1_transferWait_b44 at hf
  unfold f_X1_transferWait_b44
  cases hf
  exact ⟨rfl, h⟩
def c_X1_transferWait_b0 (E : zE) (N : iN) (p1 : Int32) (s : cT) (g : zH) : Option ((Int32 ⊕ (Nat × Nat)) × (cT × zH)) :=
  bnd2 (c_X1_franchisee E N p1 s g) fun x4 z1335 =>
  Sum.elim (fun x5 => (
    bnd2 (c_X12_isOpen E N x5 z1335.1 z1335.2) fun x12 z1338 =>
    if x12 = 0 then (
      c_X1_transferWait_b44 E N (-1 : Int32) z1338.1 z1338.2
    ) else (
      bnd2 (c_J12_max E N (0 : Int32) ((z1338.1.2.1 2 7) - ((z1338.1.2.1 (N.1 + 10) 5) - (z1338.1.2.1 (N.1 + 140 + x5) 1))) z1338.1 z1338.2) fun x26 z1342 =>
      c_X1_transferWait_b44 E N x26 z1342.1 z1342.2
    )
  )) (fun q6 => (
    some (.inr q6, (z1335.1, z1335.2))
  )) x4
theorem cs_X1_transferWait_b0 (E : zE) {s : cT} {g : zH} (h : iH p s g N) {p1 : Int32} (hf : c_X1_transferWait_b0 E N p1 s g = some (r, (s9, g9))) : f_X1_transferWait_b0 E (p.1 1) p1 (cH p s g) = some (r, cH p s9 g9) ∧ iH p s9 g9 N := by
  unfold c_X1_transferWait_b0 at hf
  unfold f_X1_transferWait_b0
  refine kb1 (a_X_ck h) ?_
  obtain ⟨x4, z1335, e1334, hf⟩ := zbind2 hf
  obtain ⟨e1334, h, hr_x4⟩ := cs_X1_franchisee E h e1334
  refine kbc e1334 ?_
  rcases x4 with x5 | q6
  · have hf := zinl hf
    have hi_x5 := hr_x4 _ rfl
    refine kel_l ?_
    refine kb1 (a_Fr_R0 h hi_x5) ?_
    refine kb1 (a_Tr_ck h hi_x5) ?_
    obtain ⟨x12, z1338, e1337, hf⟩ := zbind2 hf
    obtain ⟨e1337, h⟩ := cs_X12_isOpen E h hi_x5 e1337
    refine kbc e1337 ?_
    by_cases c1340 : x12 = 0
    · have hf := zif_t c1340 hf
      refine kif_t c1340 ?_
      exact cs_X1_transferWait_b44 E h hf
    · have hf := zif_f c1340 hf
      refine kif_f c1340 ?_
      refine kb1 (a_X_R0 h) ?_
      refine kb1 (a_Ru_I7 h) ?_
      refine kb1 (a_X_R1 h) ?_
      refine kb1 (a_Bk_I5 h) ?_
      refine kb1 (a_Tr_I1 h hi_x5) ?_
      obtain ⟨x26, z1342, e1341, hf⟩ := zbind2 hf
      obtain ⟨e1341, h⟩ := cs_J12_max E h e1341
      refine kbc e1341 ?_
      exact cs_X1_transferWait_b44 E h hf
  · have hf := zinr hf
    refine kel_r ?_
    cases hf
    exact ⟨rfl, h⟩
def c_X1_transferWait (E : zE) (N : iN) (p1 : Int32) (s : cT) (g : zH) : Option ((Int32 ⊕ (Nat × Nat)) × (cT × zH)) :=
  c_X1_transferWait_b0 E N p1 s g
theorem cs_X1_transferWait (E : zE) {s : cT} {g : zH} (h : iH p s g N) {p1 : Int32} (hf : c_X1_transferWait E N p1 s g = some (r, (s9, g9))) : f_X1_transferWait E (p.1 1) p1 (cH p s g) = some (r, cH p s9 g9) ∧ iH p s9 g9 N := by
  unfold c_X1_transferWait at hf
  unfold f_X1_transferWait
  exact cs_X1_transferWait_b0 E h hf
end
section
variable {p : cP} {N : iN} {r : (Int32 ⊕ (Nat × Nat))} {s9 : cT} {g9 : zH}
def c_X1_generation_b0 (E : zE) (N : iN) (p1 : Int32) (s : cT) (g : zH) : Option ((Int32 ⊕ (Nat × Nat)) × (cT × zH)) :=
  bnd2 (c_X1_franchisee E N p1 s g) fun x4 z1345 =>
  Sum.elim (fun x5 => (
    some (.inl (z1345.1.2.1 (N.1 + 130 + x5) 6), (z1345.1, z1345.2))
  )) (fun q6 => (
    some (.inr q6, (z1345.1, z1345.2))
  )) x4
theorem cs_X1_generation_b0 (E : zE) {s : cT} {g : zH} (h : iH p s g N) {p1 : Int32} (hf : c_X1_generation_b0 E N p1 s g = some (r, (s9, g9))) : f_X1_generation_b0 E (p.1 1) p1 (cH p s g) = some (r, cH p s9 g9) ∧ iH p s9 g9 N := by
  unfold c_X1_generation_b0 at hf
  unfold f_X1_generation_b0
  refine kb1 (a_X_ck h) ?_
  obtain ⟨x4, z1345, e1344, hf⟩ := zbind2 hf
  obtain ⟨e1344, h, hr_x4⟩ := cs_X1_franchisee E h e1344
  refine kbc e1344 ?_
  rcases x4 with x5 | q6
  · have hf := zinl hf
    have hi_x5 := hr_x4 _ rfl
    refine kel_l ?_
    refine kb1 (a_Fr_I6 h hi_x5) ?_
    cases hf
    exact ⟨rfl, h⟩
  · have hf := zinr hf
    refine kel_r ?_
    cases hf
    exact ⟨rfl, h⟩
def c_X1_generation (E : zE) (N : iN) (p1 : Int32) (s : cT) (g : zH) : Option ((Int32 ⊕ (Nat × Nat)) × (cT × zH)) :=
  c_X1_generation_b0 E N p1 s g
theorem cs_X1_generation (E : zE) {s : cT} {g : zH} (h : iH p s g N) {p1 : Int32} (hf : c_X1_generation E N p1 s g = some (r, (s9, g9))) : f_X1_generation E (p.1 1) p1 (cH p s g) = some (r, cH p s9 g9) ∧ iH p s9 g9 N := by
  unfold c_X1_generation at hf
  unfold f_X1_generation
  exact cs_X1_generation_b0 E h hf
end
section
variable {p : cP} {N : iN} {r : (Int32 ⊕ (Nat × Nat))} {s9 : cT} {g9 : zH}
def c_X1_worth_b0 (E : zE) (N : iN) (p1 : Int32) (s : cT) (g : zH) : Option ((Int32 ⊕ (Nat × Nat)) × (cT × zH)) :=
  bnd2 (c_X1_franchisee E N p1 s g) fun x4 z1348 =>
  Sum.elim (fun x5 => (
    some (.inl (z1348.1.2.1 (N.1 + 130 + x5) 4), (z1348.1, z1348.2))
  )) (fun q6 => (
    some (.inr q6, (z1348.1, z1348.2))
  )) x4
theorem cs_X1_worth_b0 (E : zE) {s : cT} {g : zH} (h : iH p s g N) {p1 : Int32} (hf : c_X1_worth_b0 E N p1 s g = some (r, (s9, g9))) : f_X1_worth_b0 E (p.1 1) p1 (cH p s g) = some (r, cH p s9 g9) ∧ iH p s9 g9 N := by
  unfold c_X1_worth_b0 at hf
  unfold f_X1_worth_b0
  refine kb1 (a_X_ck h) ?_
  obtain ⟨x4, z1348, e1347, hf⟩ := zbind2 hf
  obtain ⟨e1347, h, hr_x4⟩ := cs_X1_franchisee E h e1347
  refine kbc e1347 ?_
  rcases x4 with x5 | q6
  · have hf := zinl hf
    have hi_x5 := hr_x4 _ rfl
    refine kel_l ?_
    refine kb1 (a_Fr_I4 h hi_x5) ?_
    cases hf
    exact ⟨rfl, h⟩
  · have hf := zinr hf
    refine kel_r ?_
    cases hf
    exact ⟨rfl, h⟩
def c_X1_worth (E : zE) (N : iN) (p1 : Int32) (s : cT) (g : zH) : Option ((Int32 ⊕ (Nat × Nat)) × (cT × zH)) :=
  c_X1_worth_b0 E N p1 s g
theorem cs_X1_worth (E : zE) {s : cT} {g : zH} (h : iH p s g N) {p1 : Int32} (hf : c_X1_worth E N p1 s g = some (r, (s9, g9))) : f_X1_worth E (p.1 1) p1 (cH p s g) = some (r, cH p s9 g9) ∧ iH p s9 g9 N := by
  unfold c_X1_worth at hf
  unfold f_X1_worth
  exact cs_X1_worth_b0 E h hf
end
section
variable {p : cP} {N : iN} {r : Int64} {s9 : cT} {g9 : zH}
def c_J12_abs_2_b12 (E : zE) (N : iN) (s0 : Int64) (s : cT) (g : zH) : Option (Int64 × (cT × zH)) :=
  some (s0, (s, g))
theorem cs_J12_abs_2_b12 (E : zE) {s : cT} {g : zH} (h : iH p s g N) {s0 : Int64} (hf : c_J12_abs_2_b12 E N s0 s g = some (r, (s9, g9))) : f_J12_abs_2_b12 E s0 (cH p s g) = some (r, cH p s9 g9) ∧ iH p s9 g9 N := by
  unfold c_J12_abs_2_b12 at hf
  unfold f_J12_abs_2_b12
  cases hf
  exact ⟨rfl, h⟩
def c_J12_abs_2_b0 (E : zE) (N : iN) (p0 : Int64) (s : cT) (g : zH) : Option (Int64 × (cT × zH)) :=
  if (0 : Int64) ≤ p0 then (
    c_J12_abs_2_b12 E N p0 s g
  ) else (
    c_J12_abs_2_b12 E N (-p0) s g
  )
theorem cs_J12_abs_2_b0 (E : zE) {s : cT} {g : zH} (h : iH p s g N) {p0 : Int64} (hf : c_J12_abs_2_b0 E N p0 s g = some (r, (s9, g9))) : f_J12_abs_2_b0 E p0 (cH p s g) = some (r, cH p s9 g9) ∧ iH p s9 g9 N := by
  unfold c_J12_abs_2_b0 at hf
  unfold f_J12_abs_2_b0
  by_cases c1350 : (0 : Int64) ≤ p0
  · have hf := zif_t c1350 hf
    refine kif_t c1350 ?_
    exact cs_J12_abs_2_b12 E h hf
  · have hf := zif_f c1350 hf
    refine kif_f c1350 ?_
    exact cs_J12_abs_2_b12 E h hf
def c_J12_abs_2 (E : zE) (N : iN) (p0 : Int64) (s : cT) (g : zH) : Option (Int64 × (cT × zH)) :=
  c_J12_abs_2_b0 E N p0 s g
theorem cs_J12_abs_2 (E : zE) {s : cT} {g : zH} (h : iH p s g N) {p0 : Int64} (hf : c_J12_abs_2 E N p0 s g = some (r, (s9, g9))) : f_J12_abs_2 E p0 (cH p s g) = some (r, cH p s9 g9) ∧ iH p s9 g9 N := by
  unfold c_J12_abs_2 at hf
  unfold f_J12_abs_2
  exact cs_J12_abs_2_b0 E h hf
end
section
variable {p : cP} {N : iN} {r : Int32} {s9 : cT} {g9 : zH}
def c_X0_owner_b13 (E : zE) (N : iN) (s0 : Nat) (s : cT) (g : zH) : Option (Int32 × (cT × zH)) :=
  some ((1 : Int32), (s, g))
theorem cs_X0_owner_b13 (E : zE) {s : cT} {g : zH} (h : iH p s g N) {s0 : Nat} (hf : c_X0_owner_b13 E N s0 s g = some (r, (s9, g9))) : f_X0_owner_b13 E s0 (cH p s g) = some (r, cH p s9 g9) ∧ iH p s9 g9 N := by
  unfold c_X0_owner_b13 at hf
  unfold f_X0_owner_b13
  cases hf
  exact ⟨rfl, h⟩
def c_X0_owner_b0 (E : zE) (N : iN) (p1 : Int32) (p2 : Int32) (p3 : Nat) (s : cT) (g : zH) : Option (Int32 × (cT × zH)) :=
  bnd2 (c_X1_owner E N p1 p2 s g) fun x4 z1357 =>
  Sum.elim (fun x5 => (
    (sL z1357.2 p3 (0 : Int32) (x5.toInt64)).bind fun g1360 =>
    some ((0 : Int32), (z1357.1, g1360))
  )) (fun q6 => (
    if q6.1 = 21 then (
      c_X0_owner_b13 E N q6.2 z1357.1 z1357.2
    ) else (
      none
    )
  )) x4
theorem cs_X0_owner_b0 (E : zE) {s : cT} {g : zH} (h : iH p s g N) {p1 : Int32} {p2 : Int32} {p3 : Nat} (hq_p3 : p.2 p3 = none) (hf : c_X0_owner_b0 E N p1 p2 p3 s g = some (r, (s9, g9))) : f_X0_owner_b0 E (p.1 1) p1 p2 p3 (cH p s g) = some (r, cH p s9 g9) ∧ iH p s9 g9 N := by
  unfold c_X0_owner_b0 at hf
  unfold f_X0_owner_b0
  refine kb1 (a_X_ck h) ?_
  obtain ⟨x4, z1357, e1356, hf⟩ := zbind2 hf
  obtain ⟨e1356, h⟩ := cs_X1_owner E h e1356
  refine kbc e1356 ?_
  rcases x4 with x5 | q6
  · have hf := zinl hf
    refine kel0_l ?_
    obtain ⟨g1360, e1359, hf⟩ := zbind hf
    refine kb1 ((r_sL hq_p3 _ _).trans (congrArg (Option.map (cH p _)) e1359)) ?_
    have h := iH_g h (gle_sL e1359)
    cases hf
    exact ⟨rfl, h⟩
  · have hf := zinr hf
    refine kel0_r ?_
    by_cases c1361 : q6.1 = 21
    · have hf := zif_t c1361 hf
      refine kif_t c1361 ?_
      exact cs_X0_owner_b13 E h hf
    · have hf := zif_f c1361 hf
      refine kif_f c1361 ?_
      cases hf
def c_X0_owner (E : zE) (N : iN) (p1 : Int32) (p2 : Int32) (p3 : Nat) (s : cT) (g : zH) : Option (Int32 × (cT × zH)) :=
  c_X0_owner_b0 E N p1 p2 p3 s g
theorem cs_X0_owner (E : zE) {s : cT} {g : zH} (h : iH p s g N) {p1 : Int32} {p2 : Int32} {p3 : Nat} (hq_p3 : p.2 p3 = none) (hf : c_X0_owner E N p1 p2 p3 s g = some (r, (s9, g9))) : f_X0_owner E (p.1 1) p1 p2 p3 (cH p s g) = some (r, cH p s9 g9) ∧ iH p s9 g9 N := by
  unfold c_X0_owner at hf
  unfold f_X0_owner
  exact cs_X0_owner_b0 E h hq_p3 hf
end
section
variable {p : cP} {N : iN} {r : Int32} {s9 : cT} {g9 : zH}
def c_X0_area_b12 (E : zE) (N : iN) (s0 : Nat) (s : cT) (g : zH) : Option (Int32 × (cT × zH)) :=
  some ((1 : Int32), (s, g))
theorem cs_X0_area_b12 (E : zE) {s : cT} {g : zH} (h : iH p s g N) {s0 : Nat} (hf : c_X0_area_b12 E N s0 s g = some (r, (s9, g9))) : f_X0_area_b12 E s0 (cH p s g) = some (r, cH p s9 g9) ∧ iH p s9 g9 N := by
  unfold c_X0_area_b12 at hf
  unfold f_X0_area_b12
  cases hf
  exact ⟨rfl, h⟩
def c_X0_area_b0 (E : zE) (N : iN) (p1 : Int32) (p2 : Nat) (s : cT) (g : zH) : Option (Int32 × (cT × zH)) :=
  bnd2 (c_X1_area E N p1 s g) fun x4 z1363 =>
  Sum.elim (fun x5 => (
    (sL z1363.2 p2 (0 : Int32) (x5.toInt64)).bind fun g1366 =>
    some ((0 : Int32), (z1363.1, g1366))
  )) (fun q6 => (
    if q6.1 = 20 then (
      c_X0_area_b12 E N q6.2 z1363.1 z1363.2
    ) else (
      none
    )
  )) x4
theorem cs_X0_area_b0 (E : zE) {s : cT} {g : zH} (h : iH p s g N) {p1 : Int32} {p2 : Nat} (hq_p2 : p.2 p2 = none) (hf : c_X0_area_b0 E N p1 p2 s g = some (r, (s9, g9))) : f_X0_area_b0 E (p.1 1) p1 p2 (cH p s g) = some (r, cH p s9 g9) ∧ iH p s9 g9 N := by
  unfold c_X0_area_b0 at hf
  unfold f_X0_area_b0
  refine kb1 (a_X_ck h) ?_
  obtain ⟨x4, z1363, e1362, hf⟩ := zbind2 hf
  obtain ⟨e1362, h⟩ := cs_X1_area E h e1362
  refine kbc e1362 ?_
  rcases x4 with x5 | q6
  · have hf := zinl hf
    refine kel0_l ?_
    obtain ⟨g1366, e1365, hf⟩ := zbind hf
    refine kb1 ((r_sL hq_p2 _ _).trans (congrArg (Option.map (cH p _)) e1365)) ?_
    have h := iH_g h (gle_sL e1365)
    cases hf
    exact ⟨rfl, h⟩
  · have hf := zinr hf
    refine kel0_r ?_
    by_cases c1367 : q6.1 = 20
    · have hf := zif_t c1367 hf
      refine kif_t c1367 ?_
      exact cs_X0_area_b12 E h hf
    · have hf := zif_f c1367 hf
      refine kif_f c1367 ?_
      cases hf
def c_X0_area (E : zE) (N : iN) (p1 : Int32) (p2 : Nat) (s : cT) (g : zH) : Option (Int32 × (cT × zH)) :=
  c_X0_area_b0 E N p1 p2 s g
theorem cs_X0_area (E : zE) {s : cT} {g : zH} (h : iH p s g N) {p1 : Int32} {p2 : Nat} (hq_p2 : p.2 p2 = none) (hf : c_X0_area E N p1 p2 s g = some (r, (s9, g9))) : f_X0_area E (p.1 1) p1 p2 (cH p s g) = some (r, cH p s9 g9) ∧ iH p s9 g9 N := by
  unfold c_X0_area at hf
  unfold f_X0_area
  exact cs_X0_area_b0 E h hq_p2 hf
end
section
variable {p : cP} {N : iN} {r : Int32} {s9 : cT} {g9 : zH}
def c_X0_perimeter_b12 (E : zE) (N : iN) (s0 : Nat) (s : cT) (g : zH) : Option (Int32 × (cT × zH)) :=
  some ((1 : Int32), (s, g))
theorem cs_X0_perimeter_b12 (E : zE) {s : cT} {g : zH} (h : iH p s g N) {s0 : Nat} (hf : c_X0_perimeter_b12 E N s0 s g = some (r, (s9, g9))) : f_X0_perimeter_b12 E s0 (cH p s g) = some (r, cH p s9 g9) ∧ iH p s9 g9 N := by
  unfold c_X0_perimeter_b12 at hf
  unfold f_X0_perimeter_b12
  cases hf
  exact ⟨rfl, h⟩
def c_X0_perimeter_b0 (E : zE) (N : iN) (p1 : Int32) (p2 : Nat) (s : cT) (g : zH) : Option (Int32 × (cT × zH)) :=
  bnd2 (c_X1_perimeter E N p1 s g) fun x4 z1369 =>
  Sum.elim (fun x5 => (
    (sL z1369.2 p2 (0 : Int32) (x5.toInt64)).bind fun g1372 =>
    some ((0 : Int32), (z1369.1, g1372))
  )) (fun q6 => (
    if q6.1 = 20 then (
      c_X0_perimeter_b12 E N q6.2 z1369.1 z1369.2
    ) else (
      none
    )
  )) x4
theorem cs_X0_perimeter_b0 (E : zE) {s : cT} {g : zH} (h : iH p s g N) {p1 : Int32} {p2 : Nat} (hq_p2 : p.2 p2 = none) (hf : c_X0_perimeter_b0 E N p1 p2 s g = some (r, (s9, g9))) : f_X0_perimeter_b0 E (p.1 1) p1 p2 (cH p s g) = some (r, cH p s9 g9) ∧ iH p s9 g9 N := by
  unfold c_X0_perimeter_b0 at hf
  unfold f_X0_perimeter_b0
  refine kb1 (a_X_ck h) ?_
  obtain ⟨x4, z1369, e1368, hf⟩ := zbind2 hf
  obtain ⟨e1368, h⟩ := cs_X1_perimeter E h e1368
  refine kbc e1368 ?_
  rcases x4 with x5 | q6
  · have hf := zinl hf
    refine kel0_l ?_
    obtain ⟨g1372, e1371, hf⟩ := zbind hf
    refine kb1 ((r_sL hq_p2 _ _).trans (congrArg (Option.map (cH p _)) e1371)) ?_
    have h := iH_g h (gle_sL e1371)
    cases hf
    exact ⟨rfl, h⟩
  · have hf := zinr hf
    refine kel0_r ?_
    by_cases c1373 : q6.1 = 20
    · have hf := zif_t c1373 hf
      refine kif_t c1373 ?_
      exact cs_X0_perimeter_b12 E h hf
    · have hf := zif_f c1373 hf
      refine kif_f c1373 ?_
      cases hf
def c_X0_perimeter (E : zE) (N : iN) (p1 : Int32) (p2 : Nat) (s : cT) (g : zH) : Option (Int32 × (cT × zH)) :=
  c_X0_perimeter_b0 E N p1 p2 s g
theorem cs_X0_perimeter (E : zE) {s : cT} {g : zH} (h : iH p s g N) {p1 : Int32} {p2 : Nat} (hq_p2 : p.2 p2 = none) (hf : c_X0_perimeter E N p1 p2 s g = some (r, (s9, g9))) : f_X0_perimeter E (p.1 1) p1 p2 (cH p s g) = some (r, cH p s9 g9) ∧ iH p s9 g9 N := by
  unfold c_X0_perimeter at hf
  unfold f_X0_perimeter
  exact cs_X0_perimeter_b0 E h hq_p2 hf
end
section
variable {p : cP} {N : iN} {r : Int32} {s9 : cT} {g9 : zH}
def c_X0_border_b13 (E : zE) (N : iN) (s0 : Nat) (s : cT) (g : zH) : Option (Int32 × (cT × zH)) :=
  some ((1 : Int32), (s, g))
theorem cs_X0_border_b13 (E : zE) {s : cT} {g : zH} (h : iH p s g N) {s0 : Nat} (hf : c_X0_border_b13 E N s0 s g = some (r, (s9, g9))) : f_X0_border_b13 E s0 (cH p s g) = some (r, cH p s9 g9) ∧ iH p s9 g9 N := by
  unfold c_X0_border_b13 at hf
  unfold f_X0_border_b13
  cases hf
  exact ⟨rfl, h⟩
def c_X0_border_b0 (E : zE) (N : iN) (p1 : Int32) (p2 : Int32) (p3 : Nat) (s : cT) (g : zH) : Option (Int32 × (cT × zH)) :=
  bnd2 (c_X1_border E N p1 p2 s g) fun x4 z1375 =>
  Sum.elim (fun x5 => (
    (sL z1375.2 p3 (0 : Int32) (x5.toInt64)).bind fun g1378 =>
    some ((0 : Int32), (z1375.1, g1378))
  )) (fun q6 => (
    if q6.1 = 20 then (
      c_X0_border_b13 E N q6.2 z1375.1 z1375.2
    ) else (
      none
    )
  )) x4
theorem cs_X0_border_b0 (E : zE) {s : cT} {g : zH} (h : iH p s g N) {p1 : Int32} {p2 : Int32} {p3 : Nat} (hq_p3 : p.2 p3 = none) (hf : c_X0_border_b0 E N p1 p2 p3 s g = some (r, (s9, g9))) : f_X0_border_b0 E (p.1 1) p1 p2 p3 (cH p s g) = some (r, cH p s9 g9) ∧ iH p s9 g9 N := by
  unfold c_X0_border_b0 at hf
  unfold f_X0_border_b0
  refine kb1 (a_X_ck h) ?_
  obtain ⟨x4, z1375, e1374, hf⟩ := zbind2 hf
  obtain ⟨e1374, h⟩ := cs_X1_border E h e1374
  refine kbc e1374 ?_
  rcases x4 with x5 | q6
  · have hf := zinl hf
    refine kel0_l ?_
    obtain ⟨g1378, e1377, hf⟩ := zbind hf
    refine kb1 ((r_sL hq_p3 _ _).trans (congrArg (Option.map (cH p _)) e1377)) ?_
    have h := iH_g h (gle_sL e1377)
    cases hf
    exact ⟨rfl, h⟩
  · have hf := zinr hf
    refine kel0_r ?_
    by_cases c1379 : q6.1 = 20
    · have hf := zif_t c1379 hf
      refine kif_t c1379 ?_
      exact cs_X0_border_b13 E h hf
    · have hf := zif_f c1379 hf
      refine kif_f c1379 ?_
      cases hf
def c_X0_border (E : zE) (N : iN) (p1 : Int32) (p2 : Int32) (p3 : Nat) (s : cT) (g : zH) : Option (Int32 × (cT × zH)) :=
  c_X0_border_b0 E N p1 p2 p3 s g
theorem cs_X0_border (E : zE) {s : cT} {g : zH} (h : iH p s g N) {p1 : Int32} {p2 : Int32} {p3 : Nat} (hq_p3 : p.2 p3 = none) (hf : c_X0_border E N p1 p2 p3 s g = some (r, (s9, g9))) : f_X0_border E (p.1 1) p1 p2 p3 (cH p s g) = some (r, cH p s9 g9) ∧ iH p s9 g9 N := by
  unfold c_X0_border at hf
  unfold f_X0_border
  exact cs_X0_border_b0 E h hq_p3 hf
end
section
variable {p : cP} {N : iN} {r : Int32} {s9 : cT} {g9 : zH}
def c_X0_isConnected_b19 (E : zE) (N : iN) (s0 : Nat) (s : cT) (g : zH) : Option (Int32 × (cT × zH)) :=
  some ((1 : Int32), (s, g))
theorem cs_X0_isConnected_b19 (E : zE) {s : cT} {g : zH} (h : iH p s g N) {s0 : Nat} (hf : c_X0_isConnected_b19 E N s0 s g = some (r, (s9, g9))) : f_X0_isConnected_b19 E s0 (cH p s g) = some (r, cH p s9 g9) ∧ iH p s9 g9 N := by
  unfold c_X0_isConnected_b19 at hf
  unfold f_X0_isConnected_b19
  cases hf
  exact ⟨rfl, h⟩
def c_X0_isConnected_b15 (E : zE) (N : iN) (s0 : Nat) (s1 : Int32) (s2 : Int64) (s : cT) (g : zH) : Option (Int32 × (cT × zH)) :=
  (sL g s0 s1 s2).bind fun g1381 =>
  some ((0 : Int32), (s, g1381))
theorem cs_X0_isConnected_b15 (E : zE) {s : cT} {g : zH} (h : iH p s g N) {s0 : Nat} {s1 : Int32} {s2 : Int64} (hq_s0 : p.2 s0 = none) (hf : c_X0_isConnected_b15 E N s0 s1 s2 s g = some (r, (s9, g9))) : f_X0_isConnected_b15 E s0 s1 s2 (cH p s g) = some (r, cH p s9 g9) ∧ iH p s9 g9 N := by
  unfold c_X0_isConnected_b15 at hf
  unfold f_X0_isConnected_b15
  obtain ⟨g1381, e1380, hf⟩ := zbind hf
  refine kb1 ((r_sL hq_s0 _ _).trans (congrArg (Option.map (cH p _)) e1380)) ?_
  have h := iH_g h (gle_sL e1380)
  cases hf
  exact ⟨rfl, h⟩
def c_X0_isConnected_b0 (E : zE) (N : iN) (p1 : Int32) (p2 : Nat) (s : cT) (g : zH) : Option (Int32 × (cT × zH)) :=
  bnd2 (c_X1_isConnected E N p1 s g) fun x4 z1383 =>
  Sum.elim (fun x5 => (
    if x5 = 0 then (
      c_X0_isConnected_b15 E N p2 (0 : Int32) (0 : Int64) z1383.1 z1383.2
    ) else (
      c_X0_isConnected_b15 E N p2 (0 : Int32) (1 : Int64) z1383.1 z1383.2
    )
  )) (fun q6 => (
    if q6.1 = 20 then (
      c_X0_isConnected_b19 E N q6.2 z1383.1 z1383.2
    ) else (
      none
    )
  )) x4
theorem cs_X0_isConnected_b0 (E : zE) {s : cT} {g : zH} (h : iH p s g N) {p1 : Int32} {p2 : Nat} (hq_p2 : p.2 p2 = none) (hf : c_X0_isConnected_b0 E N p1 p2 s g = some (r, (s9, g9))) : f_X0_isConnected_b0 E (p.1 1) p1 p2 (cH p s g) = some (r, cH p s9 g9) ∧ iH p s9 g9 N := by
  unfold c_X0_isConnected_b0 at hf
  unfold f_X0_isConnected_b0
  refine kb1 (a_X_ck h) ?_
  obtain ⟨x4, z1383, e1382, hf⟩ := zbind2 hf
  obtain ⟨e1382, h⟩ := cs_X1_isConnected E h e1382
  refine kbc e1382 ?_
  rcases x4 with x5 | q6
  · have hf := zinl hf
    refine kel0_l ?_
    by_cases c1385 : x5 = 0
    · have hf := zif_t c1385 hf
      refine kif_t c1385 ?_
      exact cs_X0_isConnected_b15 E h hq_p2 hf
    · have hf := zif_f c1385 hf
      refine kif_f c1385 ?_
      exact cs_X0_isConnected_b15 E h hq_p2 hf
  · have hf := zinr hf
    refine kel0_r ?_
    by_cases c1386 : q6.1 = 20
    · have hf := zif_t c1386 hf
      refine kif_t c1386 ?_
      exact cs_X0_isConnected_b19 E h hf
    · have hf := zif_f c1386 hf
      refine kif_f c1386 ?_
      cases hf
def c_X0_isConnected (E : zE) (N : iN) (p1 : Int32) (p2 : Nat) (s : cT) (g : zH) : Option (Int32 × (cT × zH)) :=
  c_X0_isConnected_b0 E N p1 p2 s g
theorem cs_X0_isConnected (E : zE) {s : cT} {g : zH} (h : iH p s g N) {p1 : Int32} {p2 : Nat} (hq_p2 : p.2 p2 = none) (hf : c_X0_isConnected E N p1 p2 s g = some (r, (s9, g9))) : f_X0_isConnected E (p.1 1) p1 p2 (cH p s g) = some (r, cH p s9 g9) ∧ iH p s9 g9 N := by
  unfold c_X0_isConnected at hf
  unfold f_X0_isConnected
  exact cs_X0_isConnected_b0 E h hq_p2 hf
end
section
variable {p : cP} {N : iN} {r : Int32} {s9 : cT} {g9 : zH}
def c_X0_distance_b15 (E : zE) (N : iN) (s0 : Nat) (s : cT) (g : zH) : Option (Int32 × (cT × zH)) :=
  some ((1 : Int32), (s, g))
theorem cs_X0_distance_b15 (E : zE) {s : cT} {g : zH} (h : iH p s g N) {s0 : Nat} (hf : c_X0_distance_b15 E N s0 s g = some (r, (s9, g9))) : f_X0_distance_b15 E s0 (cH p s g) = some (r, cH p s9 g9) ∧ iH p s9 g9 N := by
  unfold c_X0_distance_b15 at hf
  unfold f_X0_distance_b15
  cases hf
  exact ⟨rfl, h⟩
def c_X0_distance_b19 (E : zE) (N : iN) (s0 : Nat) (s : cT) (g : zH) : Option (Int32 × (cT × zH)) :=
  some ((2 : Int32), (s, g))
theorem cs_X0_distance_b19 (E : zE) {s : cT} {g : zH} (h : iH p s g N) {s0 : Nat} (hf : c_X0_distance_b19 E N s0 s g = some (r, (s9, g9))) : f_X0_distance_b19 E s0 (cH p s g) = some (r, cH p s9 g9) ∧ iH p s9 g9 N := by
  unfold c_X0_distance_b19 at hf
  unfold f_X0_distance_b19
  cases hf
  exact ⟨rfl, h⟩
def c_X0_distance_b0 (E : zE) (N : iN) (p1 : Int32) (p2 : Int32) (p3 : Int32) (p4 : Nat) (s : cT) (g : zH) : Option (Int32 × (cT × zH)) :=
  bnd2 (c_X1_distance E N p1 p2 p3 s g) fun x4 z1388 =>
  Sum.elim (fun x5 => (
    (sL z1388.2 p4 (0 : Int32) (x5.toInt64)).bind fun g1391 =>
    some ((0 : Int32), (z1388.1, g1391))
  )) (fun q6 => (
    if q6.1 = 20 then (
      c_X0_distance_b15 E N q6.2 z1388.1 z1388.2
    ) else (
      if q6.1 = 21 then (
        c_X0_distance_b19 E N q6.2 z1388.1 z1388.2
      ) else (
        none
      )
    )
  )) x4
theorem cs_X0_distance_b0 (E : zE) {s : cT} {g : zH} (h : iH p s g N) {p1 : Int32} {p2 : Int32} {p3 : Int32} {p4 : Nat} (hq_p4 : p.2 p4 = none) (hf : c_X0_distance_b0 E N p1 p2 p3 p4 s g = some (r, (s9, g9))) : f_X0_distance_b0 E (p.1 1) p1 p2 p3 p4 (cH p s g) = some (r, cH p s9 g9) ∧ iH p s9 g9 N := by
  unfold c_X0_distance_b0 at hf
  unfold f_X0_distance_b0
  refine kb1 (a_X_ck h) ?_
  obtain ⟨x4, z1388, e1387, hf⟩ := zbind2 hf
  obtain ⟨e1387, h⟩ := cs_X1_distance E h e1387
  refine kbc e1387 ?_
  rcases x4 with x5 | q6
  · have hf := zinl hf
    refine kel0_l ?_
    obtain ⟨g1391, e1390, hf⟩ := zbind hf
    refine kb1 ((r_sL hq_p4 _ _).trans (congrArg (Option.map (cH p _)) e1390)) ?_
    have h := iH_g h (gle_sL e1390)
    cases hf
    exact ⟨rfl, h⟩
  · have hf := zinr hf
    refine kel0_r ?_
    by_cases c1392 : q6.1 = 20
    · have hf := zif_t c1392 hf
      refine kif_t c1392 ?_
      exact cs_X0_distance_b15 E h hf
    · have hf := zif_f c1392 hf
      refine kif_f c1392 ?_
      by_cases c1393 : q6.1 = 21
      · have hf := zif_t c1393 hf
        refine kif_t c1393 ?_
        exact cs_X0_distance_b19 E h hf
      · have hf := zif_f c1393 hf
        refine kif_f c1393 ?_
        cases hf
def c_X0_distance (E : zE) (N : iN) (p1 : Int32) (p2 : Int32) (p3 : Int32) (p4 : Nat) (s : cT) (g : zH) : Option (Int32 × (cT × zH)) :=
  c_X0_distance_b0 E N p1 p2 p3 p4 s g
theorem cs_X0_distance (E : zE) {s : cT} {g : zH} (h : iH p s g N) {p1 : Int32} {p2 : Int32} {p3 : Int32} {p4 : Nat} (hq_p4 : p.2 p4 = none) (hf : c_X0_distance E N p1 p2 p3 p4 s g = some (r, (s9, g9))) : f_X0_distance E (p.1 1) p1 p2 p3 p4 (cH p s g) = some (r, cH p s9 g9) ∧ iH p s9 g9 N := by
  unfold c_X0_distance at hf
  unfold f_X0_distance
  exact cs_X0_distance_b0 E h hq_p4 hf
end
section
variable {p : cP} {N : iN} {r : Int32} {s9 : cT} {g9 : zH}
def c_X0_cede_b21 (E : zE) (N : iN) (s0 : Nat) (s : cT) (g : zH) : Option (Int32 × (cT × zH)) :=
  some ((1 : Int32), (s, g))
theorem cs_X0_cede_b21 (E : zE) {s : cT} {g : zH} (h : iH p s g N) {s0 : Nat} (hf : c_X0_cede_b21 E N s0 s g = some (r, (s9, g9))) : f_X0_cede_b21 E s0 (cH p s g) = some (r, cH p s9 g9) ∧ iH p s9 g9 N := by
  unfold c_X0_cede_b21 at hf
  unfold f_X0_cede_b21
  cases hf
  exact ⟨rfl, h⟩
def c_X0_cede_b25 (E : zE) (N : iN) (s0 : Nat) (s : cT) (g : zH) : Option (Int32 × (cT × zH)) :=
  some ((2 : Int32), (s, g))
theorem cs_X0_cede_b25 (E : zE) {s : cT} {g : zH} (h : iH p s g N) {s0 : Nat} (hf : c_X0_cede_b25 E N s0 s g = some (r, (s9, g9))) : f_X0_cede_b25 E s0 (cH p s g) = some (r, cH p s9 g9) ∧ iH p s9 g9 N := by
  unfold c_X0_cede_b25 at hf
  unfold f_X0_cede_b25
  cases hf
  exact ⟨rfl, h⟩
def c_X0_cede_b0 (E : zE) (N : iN) (p1 : Int32) (p2 : Int32) (p3 : Int32) (p4 : Int32) (p5 : Int32) (p6 : Int32) (p7 : Nat) (s : cT) (g : zH) : Option (Int32 × (cT × zH)) :=
  bnd2 (c_X1_cede E N p1 p2 p3 p4 p5 p6 s g) fun x4 z1395 =>
  Sum.elim (fun x5 => (
    (sL z1395.2 p7 (0 : Int32) (x5.toInt64)).bind fun g1398 =>
    some ((0 : Int32), (z1395.1, g1398))
  )) (fun q6 => (
    if q6.1 = 20 then (
      c_X0_cede_b21 E N q6.2 z1395.1 z1395.2
    ) else (
      if q6.1 = 21 then (
        c_X0_cede_b25 E N q6.2 z1395.1 z1395.2
      ) else (
        none
      )
    )
  )) x4
theorem cs_X0_cede_b0 (E : zE) {s : cT} {g : zH} (h : iH p s g N) {p1 : Int32} {p2 : Int32} {p3 : Int32} {p4 : Int32} {p5 : Int32} {p6 : Int32} {p7 : Nat} (hq_p7 : p.2 p7 = none) (hf : c_X0_cede_b0 E N p1 p2 p3 p4 p5 p6 p7 s g = some (r, (s9, g9))) : f_X0_cede_b0 E (p.1 1) p1 p2 p3 p4 p5 p6 p7 (cH p s g) = some (r, cH p s9 g9) ∧ iH p s9 g9 N := by
  unfold c_X0_cede_b0 at hf
  unfold f_X0_cede_b0
  refine kb1 (a_X_ck h) ?_
  obtain ⟨x4, z1395, e1394, hf⟩ := zbind2 hf
  obtain ⟨e1394, h⟩ := cs_X1_cede E h e1394
  refine kbc e1394 ?_
  rcases x4 with x5 | q6
  · have hf := zinl hf
    refine kel0_l ?_
    obtain ⟨g1398, e1397, hf⟩ := zbind hf
    refine kb1 ((r_sL hq_p7 _ _).trans (congrArg (Option.map (cH p _)) e1397)) ?_
    have h := iH_g h (gle_sL e1397)
    cases hf
    exact ⟨rfl, h⟩
  · have hf := zinr hf
    refine kel0_r ?_
    by_cases c1399 : q6.1 = 20
    · have hf := zif_t c1399 hf
      refine kif_t c1399 ?_
      exact cs_X0_cede_b21 E h hf
    · have hf := zif_f c1399 hf
      refine kif_f c1399 ?_
      by_cases c1400 : q6.1 = 21
      · have hf := zif_t c1400 hf
        refine kif_t c1400 ?_
        exact cs_X0_cede_b25 E h hf
      · have hf := zif_f c1400 hf
        refine kif_f c1400 ?_
        cases hf
def c_X0_cede (E : zE) (N : iN) (p1 : Int32) (p2 : Int32) (p3 : Int32) (p4 : Int32) (p5 : Int32) (p6 : Int32) (p7 : Nat) (s : cT) (g : zH) : Option (Int32 × (cT × zH)) :=
  c_X0_cede_b0 E N p1 p2 p3 p4 p5 p6 p7 s g
theorem cs_X0_cede (E : zE) {s : cT} {g : zH} (h : iH p s g N) {p1 : Int32} {p2 : Int32} {p3 : Int32} {p4 : Int32} {p5 : Int32} {p6 : Int32} {p7 : Nat} (hq_p7 : p.2 p7 = none) (hf : c_X0_cede E N p1 p2 p3 p4 p5 p6 p7 s g = some (r, (s9, g9))) : f_X0_cede E (p.1 1) p1 p2 p3 p4 p5 p6 p7 (cH p s g) = some (r, cH p s9 g9) ∧ iH p s9 g9 N := by
  unfold c_X0_cede at hf
  unfold f_X0_cede
  exact cs_X0_cede_b0 E h hq_p7 hf
end
section
variable {p : cP} {N : iN} {r : Int32} {s9 : cT} {g9 : zH}
def c_X0_outletOwner_b12 (E : zE) (N : iN) (s0 : Nat) (s : cT) (g : zH) : Option (Int32 × (cT × zH)) :=
  some ((1 : Int32), (s, g))
theorem cs_X0_outletOwner_b12 (E : zE) {s : cT} {g : zH} (h : iH p s g N) {s0 : Nat} (hf : c_X0_outletOwner_b12 E N s0 s g = some (r, (s9, g9))) : f_X0_outletOwner_b12 E s0 (cH p s g) = some (r, cH p s9 g9) ∧ iH p s9 g9 N := by
  unfold c_X0_outletOwner_b12 at hf
  unfold f_X0_outletOwner_b12
  cases hf
  exact ⟨rfl, h⟩
def c_X0_outletOwner_b0 (E : zE) (N : iN) (p1 : Int32) (p2 : Nat) (s : cT) (g : zH) : Option (Int32 × (cT × zH)) :=
  bnd2 (c_X1_outletOwner E N p1 s g) fun x4 z1402 =>
  Sum.elim (fun x5 => (
    (sL z1402.2 p2 (0 : Int32) (x5.toInt64)).bind fun g1405 =>
    some ((0 : Int32), (z1402.1, g1405))
  )) (fun q6 => (
    if q6.1 = 20 then (
      c_X0_outletOwner_b12 E N q6.2 z1402.1 z1402.2
    ) else (
      none
    )
  )) x4
theorem cs_X0_outletOwner_b0 (E : zE) {s : cT} {g : zH} (h : iH p s g N) {p1 : Int32} {p2 : Nat} (hq_p2 : p.2 p2 = none) (hf : c_X0_outletOwner_b0 E N p1 p2 s g = some (r, (s9, g9))) : f_X0_outletOwner_b0 E (p.1 1) p1 p2 (cH p s g) = some (r, cH p s9 g9) ∧ iH p s9 g9 N := by
  unfold c_X0_outletOwner_b0 at hf
  unfold f_X0_outletOwner_b0
  refine kb1 (a_X_ck h) ?_
  obtain ⟨x4, z1402, e1401, hf⟩ := zbind2 hf
  obtain ⟨e1401, h⟩ := cs_X1_outletOwner E h e1401
  refine kbc e1401 ?_
  rcases x4 with x5 | q6
  · have hf := zinl hf
    refine kel0_l ?_
    obtain ⟨g1405, e1404, hf⟩ := zbind hf
    refine kb1 ((r_sL hq_p2 _ _).trans (congrArg (Option.map (cH p _)) e1404)) ?_
    have h := iH_g h (gle_sL e1404)
    cases hf
    exact ⟨rfl, h⟩
  · have hf := zinr hf
    refine kel0_r ?_
    by_cases c1406 : q6.1 = 20
    · have hf := zif_t c1406 hf
      refine kif_t c1406 ?_
      exact cs_X0_outletOwner_b12 E h hf
    · have hf := zif_f c1406 hf
      refine kif_f c1406 ?_
      cases hf
def c_X0_outletOwner (E : zE) (N : iN) (p1 : Int32) (p2 : Nat) (s : cT) (g : zH) : Option (Int32 × (cT × zH)) :=
  c_X0_outletOwner_b0 E N p1 p2 s g
theorem cs_X0_outletOwner (E : zE) {s : cT} {g : zH} (h : iH p s g N) {p1 : Int32} {p2 : Nat} (hq_p2 : p.2 p2 = none) (hf : c_X0_outletOwner E N p1 p2 s g = some (r, (s9, g9))) : f_X0_outletOwner E (p.1 1) p1 p2 (cH p s g) = some (r, cH p s9 g9) ∧ iH p s9 g9 N := by
  unfold c_X0_outletOwner at hf
  unfold f_X0_outletOwner
  exact cs_X0_outletOwner_b0 E h hq_p2 hf
end
section
variable {p : cP} {N : iN} {r : Int32} {s9 : cT} {g9 : zH}
def c_X0_outletCell_b12 (E : zE) (N : iN) (s0 : Nat) (s : cT) (g : zH) : Option (Int32 × (cT × zH)) :=
  some ((1 : Int32), (s, g))
theorem cs_X0_outletCell_b12 (E : zE) {s : cT} {g : zH} (h : iH p s g N) {s0 : Nat} (hf : c_X0_outletCell_b12 E N s0 s g = some (r, (s9, g9))) : f_X0_outletCell_b12 E s0 (cH p s g) = some (r, cH p s9 g9) ∧ iH p s9 g9 N := by
  unfold c_X0_outletCell_b12 at hf
  unfold f_X0_outletCell_b12
  cases hf
  exact ⟨rfl, h⟩
def c_X0_outletCell_b0 (E : zE) (N : iN) (p1 : Int32) (p2 : Nat) (s : cT) (g : zH) : Option (Int32 × (cT × zH)) :=
  bnd2 (c_X1_outletCell E N p1 s g) fun x4 z1408 =>
  Sum.elim (fun x5 => (
    (sL z1408.2 p2 (0 : Int32) (x5.toInt64)).bind fun g1411 =>
    some ((0 : Int32), (z1408.1, g1411))
  )) (fun q6 => (
    if q6.1 = 20 then (
      c_X0_outletCell_b12 E N q6.2 z1408.1 z1408.2
    ) else (
      none
    )
  )) x4
theorem cs_X0_outletCell_b0 (E : zE) {s : cT} {g : zH} (h : iH p s g N) {p1 : Int32} {p2 : Nat} (hq_p2 : p.2 p2 = none) (hf : c_X0_outletCell_b0 E N p1 p2 s g = some (r, (s9, g9))) : f_X0_outletCell_b0 E (p.1 1) p1 p2 (cH p s g) = some (r, cH p s9 g9) ∧ iH p s9 g9 N := by
  unfold c_X0_outletCell_b0 at hf
  unfold f_X0_outletCell_b0
  refine kb1 (a_X_ck h) ?_
  obtain ⟨x4, z1408, e1407, hf⟩ := zbind2 hf
  obtain ⟨e1407, h⟩ := cs_X1_outletCell E h e1407
  refine kbc e1407 ?_
  rcases x4 with x5 | q6
  · have hf := zinl hf
    refine kel0_l ?_
    obtain ⟨g1411, e1410, hf⟩ := zbind hf
    refine kb1 ((r_sL hq_p2 _ _).trans (congrArg (Option.map (cH p _)) e1410)) ?_
    have h := iH_g h (gle_sL e1410)
    cases hf
    exact ⟨rfl, h⟩
  · have hf := zinr hf
    refine kel0_r ?_
    by_cases c1412 : q6.1 = 20
    · have hf := zif_t c1412 hf
      refine kif_t c1412 ?_
      exact cs_X0_outletCell_b12 E h hf
    · have hf := zif_f c1412 hf
      refine kif_f c1412 ?_
      cases hf
def c_X0_outletCell (E : zE) (N : iN) (p1 : Int32) (p2 : Nat) (s : cT) (g : zH) : Option (Int32 × (cT × zH)) :=
  c_X0_outletCell_b0 E N p1 p2 s g
theorem cs_X0_outletCell (E : zE) {s : cT} {g : zH} (h : iH p s g N) {p1 : Int32} {p2 : Nat} (hq_p2 : p.2 p2 = none) (hf : c_X0_outletCell E N p1 p2 s g = some (r, (s9, g9))) : f_X0_outletCell E (p.1 1) p1 p2 (cH p s g) = some (r, cH p s9 g9) ∧ iH p s9 g9 N := by
  unfold c_X0_outletCell at hf
  unfold f_X0_outletCell
  exact cs_X0_outletCell_b0 E h hq_p2 hf
end
section
variable {p : cP} {N : iN} {r : Int32} {s9 : cT} {g9 : zH}
def c_X0_bestSite_b12 (E : zE) (N : iN) (s0 : Nat) (s : cT) (g : zH) : Option (Int32 × (cT × zH)) :=
  some ((1 : Int32), (s, g))
theorem cs_X0_bestSite_b12 (E : zE) {s : cT} {g : zH} (h : iH p s g N) {s0 : Nat} (hf : c_X0_bestSite_b12 E N s0 s g = some (r, (s9, g9))) : f_X0_bestSite_b12 E s0 (cH p s g) = some (r, cH p s9 g9) ∧ iH p s9 g9 N := by
  unfold c_X0_bestSite_b12 at hf
  unfold f_X0_bestSite_b12
  cases hf
  exact ⟨rfl, h⟩
def c_X0_bestSite_b0 (E : zE) (N : iN) (p1 : Int32) (p2 : Nat) (s : cT) (g : zH) : Option (Int32 × (cT × zH)) :=
  bnd2 (c_X1_bestSite E N p1 s g) fun x4 z1415 =>
  Sum.elim (fun x5 => (
    (sL z1415.2 p2 (0 : Int32) (x5.toInt64)).bind fun g1418 =>
    some ((0 : Int32), (z1415.1, g1418))
  )) (fun q6 => (
    if q6.1 = 20 then (
      c_X0_bestSite_b12 E N q6.2 z1415.1 z1415.2
    ) else (
      none
    )
  )) x4
theorem cs_X0_bestSite_b0 (E : zE) {s : cT} {g : zH} (h : iH p s g N) {p1 : Int32} {p2 : Nat} (hq_p2 : p.2 p2 = none) (hf : c_X0_bestSite_b0 E N p1 p2 s g = some (r, (s9, g9))) : f_X0_bestSite_b0 E (p.1 1) p1 p2 (cH p s g) = some (r, cH p s9 g9) ∧ iH p s9 g9 N := by
  unfold c_X0_bestSite_b0 at hf
  unfold f_X0_bestSite_b0
  refine kb1 (a_X_ck h) ?_
  obtain ⟨x4, z1415, e1414, hf⟩ := zbind2 hf
  obtain ⟨e1414, h⟩ := cs_X1_bestSite E h e1414
  refine kbc e1414 ?_
  rcases x4 with x5 | q6
  · have hf := zinl hf
    refine kel0_l ?_
    obtain ⟨g1418, e1417, hf⟩ := zbind hf
    refine kb1 ((r_sL hq_p2 _ _).trans (congrArg (Option.map (cH p _)) e1417)) ?_
    have h := iH_g h (gle_sL e1417)
    cases hf
    exact ⟨rfl, h⟩
  · have hf := zinr hf
    refine kel0_r ?_
    by_cases c1419 : q6.1 = 20
    · have hf := zif_t c1419 hf
      refine kif_t c1419 ?_
      exact cs_X0_bestSite_b12 E h hf
    · have hf := zif_f c1419 hf
      refine kif_f c1419 ?_
      cases hf
def c_X0_bestSite (E : zE) (N : iN) (p1 : Int32) (p2 : Nat) (s : cT) (g : zH) : Option (Int32 × (cT × zH)) :=
  c_X0_bestSite_b0 E N p1 p2 s g
theorem cs_X0_bestSite (E : zE) {s : cT} {g : zH} (h : iH p s g N) {p1 : Int32} {p2 : Nat} (hq_p2 : p.2 p2 = none) (hf : c_X0_bestSite E N p1 p2 s g = some (r, (s9, g9))) : f_X0_bestSite E (p.1 1) p1 p2 (cH p s g) = some (r, cH p s9 g9) ∧ iH p s9 g9 N := by
  unfold c_X0_bestSite at hf
  unfold f_X0_bestSite
  exact cs_X0_bestSite_b0 E h hq_p2 hf
end
section
variable {p : cP} {N : iN} {r : Int32} {s9 : cT} {g9 : zH}
def c_X0_coverage_b13 (E : zE) (N : iN) (s0 : Nat) (s : cT) (g : zH) : Option (Int32 × (cT × zH)) :=
  some ((1 : Int32), (s, g))
theorem cs_X0_coverage_b13 (E : zE) {s : cT} {g : zH} (h : iH p s g N) {s0 : Nat} (hf : c_X0_coverage_b13 E N s0 s g = some (r, (s9, g9))) : f_X0_coverage_b13 E s0 (cH p s g) = some (r, cH p s9 g9) ∧ iH p s9 g9 N := by
  unfold c_X0_coverage_b13 at hf
  unfold f_X0_coverage_b13
  cases hf
  exact ⟨rfl, h⟩
def c_X0_coverage_b17 (E : zE) (N : iN) (s0 : Nat) (s : cT) (g : zH) : Option (Int32 × (cT × zH)) :=
  some ((2 : Int32), (s, g))
theorem cs_X0_coverage_b17 (E : zE) {s : cT} {g : zH} (h : iH p s g N) {s0 : Nat} (hf : c_X0_coverage_b17 E N s0 s g = some (r, (s9, g9))) : f_X0_coverage_b17 E s0 (cH p s g) = some (r, cH p s9 g9) ∧ iH p s9 g9 N := by
  unfold c_X0_coverage_b17 at hf
  unfold f_X0_coverage_b17
  cases hf
  exact ⟨rfl, h⟩
def c_X0_coverage_b0 (E : zE) (N : iN) (p1 : Int32) (p2 : Int32) (p3 : Nat) (s : cT) (g : zH) : Option (Int32 × (cT × zH)) :=
  bnd2 (c_X1_coverage E N p1 p2 s g) fun x4 z1421 =>
  Sum.elim (fun x5 => (
    (sL z1421.2 p3 (0 : Int32) (x5.toInt64)).bind fun g1424 =>
    some ((0 : Int32), (z1421.1, g1424))
  )) (fun q6 => (
    if q6.1 = 20 then (
      c_X0_coverage_b13 E N q6.2 z1421.1 z1421.2
    ) else (
      if q6.1 = 21 then (
        c_X0_coverage_b17 E N q6.2 z1421.1 z1421.2
      ) else (
        none
      )
    )
  )) x4
theorem cs_X0_coverage_b0 (E : zE) {s : cT} {g : zH} (h : iH p s g N) {p1 : Int32} {p2 : Int32} {p3 : Nat} (hq_p3 : p.2 p3 = none) (hf : c_X0_coverage_b0 E N p1 p2 p3 s g = some (r, (s9, g9))) : f_X0_coverage_b0 E (p.1 1) p1 p2 p3 (cH p s g) = some (r, cH p s9 g9) ∧ iH p s9 g9 N := by
  unfold c_X0_coverage_b0 at hf
  unfold f_X0_coverage_b0
  refine kb1 (a_X_ck h) ?_
  obtain ⟨x4, z1421, e1420, hf⟩ := zbind2 hf
  obtain ⟨e1420, h⟩ := cs_X1_coverage E h e1420
  refine kbc e1420 ?_
  rcases x4 with x5 | q6
  · have hf := zinl hf
    refine kel0_l ?_
    obtain ⟨g1424, e1423, hf⟩ := zbind hf
    refine kb1 ((r_sL hq_p3 _ _).trans (congrArg (Option.map (cH p _)) e1423)) ?_
    have h := iH_g h (gle_sL e1423)
    cases hf
    exact ⟨rfl, h⟩
  · have hf := zinr hf
    refine kel0_r ?_
    by_cases c1425 : q6.1 = 20
    · have hf := zif_t c1425 hf
      refine kif_t c1425 ?_
      exact cs_X0_coverage_b13 E h hf
    · have hf := zif_f c1425 hf
      refine kif_f c1425 ?_
      by_cases c1426 : q6.1 = 21
      · have hf := zif_t c1426 hf
        refine kif_t c1426 ?_
        exact cs_X0_coverage_b17 E h hf
      · have hf := zif_f c1426 hf
        refine kif_f c1426 ?_
        cases hf
def c_X0_coverage (E : zE) (N : iN) (p1 : Int32) (p2 : Int32) (p3 : Nat) (s : cT) (g : zH) : Option (Int32 × (cT × zH)) :=
  c_X0_coverage_b0 E N p1 p2 p3 s g
theorem cs_X0_coverage (E : zE) {s : cT} {g : zH} (h : iH p s g N) {p1 : Int32} {p2 : Int32} {p3 : Nat} (hq_p3 : p.2 p3 = none) (hf : c_X0_coverage E N p1 p2 p3 s g = some (r, (s9, g9))) : f_X0_coverage E (p.1 1) p1 p2 p3 (cH p s g) = some (r, cH p s9 g9) ∧ iH p s9 g9 N := by
  unfold c_X0_coverage at hf
  unfold f_X0_coverage
  exact cs_X0_coverage_b0 E h hq_p3 hf
end
section
variable {p : cP} {N : iN} {r : Int32} {s9 : cT} {g9 : zH}
def c_X0_rivalCells_b13 (E : zE) (N : iN) (s0 : Nat) (s : cT) (g : zH) : Option (Int32 × (cT × zH)) :=
  some ((1 : Int32), (s, g))
theorem cs_X0_rivalCells_b13 (E : zE) {s : cT} {g : zH} (h : iH p s g N) {s0 : Nat} (hf : c_X0_rivalCells_b13 E N s0 s g = some (r, (s9, g9))) : f_X0_rivalCells_b13 E s0 (cH p s g) = some (r, cH p s9 g9) ∧ iH p s9 g9 N := by
  unfold c_X0_rivalCells_b13 at hf
  unfold f_X0_rivalCells_b13
  cases hf
  exact ⟨rfl, h⟩
def c_X0_rivalCells_b17 (E : zE) (N : iN) (s0 : Nat) (s : cT) (g : zH) : Option (Int32 × (cT × zH)) :=
  some ((2 : Int32), (s, g))
theorem cs_X0_rivalCells_b17 (E : zE) {s : cT} {g : zH} (h : iH p s g N) {s0 : Nat} (hf : c_X0_rivalCells_b17 E N s0 s g = some (r, (s9, g9))) : f_X0_rivalCells_b17 E s0 (cH p s g) = some (r, cH p s9 g9) ∧ iH p s9 g9 N := by
  unfold c_X0_rivalCells_b17 at hf
  unfold f_X0_rivalCells_b17
  cases hf
  exact ⟨rfl, h⟩
def c_X0_rivalCells_b0 (E : zE) (N : iN) (p1 : Int32) (p2 : Int32) (p3 : Nat) (s : cT) (g : zH) : Option (Int32 × (cT × zH)) :=
  bnd2 (c_X1_rivalCells E N p1 p2 s g) fun x4 z1428 =>
  Sum.elim (fun x5 => (
    (sL z1428.2 p3 (0 : Int32) (x5.toInt64)).bind fun g1431 =>
    some ((0 : Int32), (z1428.1, g1431))
  )) (fun q6 => (
    if q6.1 = 20 then (
      c_X0_rivalCells_b13 E N q6.2 z1428.1 z1428.2
    ) else (
      if q6.1 = 21 then (
        c_X0_rivalCells_b17 E N q6.2 z1428.1 z1428.2
      ) else (
        none
      )
    )
  )) x4
theorem cs_X0_rivalCells_b0 (E : zE) {s : cT} {g : zH} (h : iH p s g N) {p1 : Int32} {p2 : Int32} {p3 : Nat} (hq_p3 : p.2 p3 = none) (hf : c_X0_rivalCells_b0 E N p1 p2 p3 s g = some (r, (s9, g9))) : f_X0_rivalCells_b0 E (p.1 1) p1 p2 p3 (cH p s g) = some (r, cH p s9 g9) ∧ iH p s9 g9 N := by
  unfold c_X0_rivalCells_b0 at hf
  unfold f_X0_rivalCells_b0
  refine kb1 (a_X_ck h) ?_
  obtain ⟨x4, z1428, e1427, hf⟩ := zbind2 hf
  obtain ⟨e1427, h⟩ := cs_X1_rivalCells E h e1427
  refine kbc e1427 ?_
  rcases x4 with x5 | q6
  · have hf := zinl hf
    refine kel0_l ?_
    obtain ⟨g1431, e1430, hf⟩ := zbind hf
    refine kb1 ((r_sL hq_p3 _ _).trans (congrArg (Option.map (cH p _)) e1430)) ?_
    have h := iH_g h (gle_sL e1430)
    cases hf
    exact ⟨rfl, h⟩
  · have hf := zinr hf
    refine kel0_r ?_
    by_cases c1432 : q6.1 = 20
    · have hf := zif_t c1432 hf
      refine kif_t c1432 ?_
      exact cs_X0_rivalCells_b13 E h hf
    · have hf := zif_f c1432 hf
      refine kif_f c1432 ?_
      by_cases c1433 : q6.1 = 21
      · have hf := zif_t c1433 hf
        refine kif_t c1433 ?_
        exact cs_X0_rivalCells_b17 E h hf
      · have hf := zif_f c1433 hf
        refine kif_f c1433 ?_
        cases hf
def c_X0_rivalCells (E : zE) (N : iN) (p1 : Int32) (p2 : Int32) (p3 : Nat) (s : cT) (g : zH) : Option (Int32 × (cT × zH)) :=
  c_X0_rivalCells_b0 E N p1 p2 p3 s g
theorem cs_X0_rivalCells (E : zE) {s : cT} {g : zH} (h : iH p s g N) {p1 : Int32} {p2 : Int32} {p3 : Nat} (hq_p3 : p.2 p3 = none) (hf : c_X0_rivalCells E N p1 p2 p3 s g = some (r, (s9, g9))) : f_X0_rivalCells E (p.1 1) p1 p2 p3 (cH p s g) = some (r, cH p s9 g9) ∧ iH p s9 g9 N := by
  unfold c_X0_rivalCells at hf
  unfold f_X0_rivalCells
  exact cs_X0_rivalCells_b0 E h hq_p3 hf
end
section
variable {p : cP} {N : iN} {r : Int32} {s9 : cT} {g9 : zH}
def c_X0_halvingLine_b12 (E : zE) (N : iN) (s0 : Nat) (s : cT) (g : zH) : Option (Int32 × (cT × zH)) :=
  some ((1 : Int32), (s, g))
theorem cs_X0_halvingLine_b12 (E : zE) {s : cT} {g : zH} (h : iH p s g N) {s0 : Nat} (hf : c_X0_halvingLine_b12 E N s0 s g = some (r, (s9, g9))) : f_X0_halvingLine_b12 E s0 (cH p s g) = some (r, cH p s9 g9) ∧ iH p s9 g9 N := by
  unfold c_X0_halvingLine_b12 at hf
  unfold f_X0_halvingLine_b12
  cases hf
  exact ⟨rfl, h⟩
def c_X0_halvingLine_b0 (E : zE) (N : iN) (p1 : Int32) (p2 : Nat) (s : cT) (g : zH) : Option (Int32 × (cT × zH)) :=
  bnd2 (c_X1_halvingLine E N p1 s g) fun x4 z1435 =>
  Sum.elim (fun x5 => (
    (sL z1435.2 p2 (0 : Int32) (x5.toInt64)).bind fun g1438 =>
    some ((0 : Int32), (z1435.1, g1438))
  )) (fun q6 => (
    if q6.1 = 20 then (
      c_X0_halvingLine_b12 E N q6.2 z1435.1 z1435.2
    ) else (
      none
    )
  )) x4
theorem cs_X0_halvingLine_b0 (E : zE) {s : cT} {g : zH} (h : iH p s g N) {p1 : Int32} {p2 : Nat} (hq_p2 : p.2 p2 = none) (hf : c_X0_halvingLine_b0 E N p1 p2 s g = some (r, (s9, g9))) : f_X0_halvingLine_b0 E (p.1 1) p1 p2 (cH p s g) = some (r, cH p s9 g9) ∧ iH p s9 g9 N := by
  unfold c_X0_halvingLine_b0 at hf
  unfold f_X0_halvingLine_b0
  refine kb1 (a_X_ck h) ?_
  obtain ⟨x4, z1435, e1434, hf⟩ := zbind2 hf
  obtain ⟨e1434, h⟩ := cs_X1_halvingLine E h e1434
  refine kbc e1434 ?_
  rcases x4 with x5 | q6
  · have hf := zinl hf
    refine kel0_l ?_
    obtain ⟨g1438, e1437, hf⟩ := zbind hf
    refine kb1 ((r_sL hq_p2 _ _).trans (congrArg (Option.map (cH p _)) e1437)) ?_
    have h := iH_g h (gle_sL e1437)
    cases hf
    exact ⟨rfl, h⟩
  · have hf := zinr hf
    refine kel0_r ?_
    by_cases c1439 : q6.1 = 20
    · have hf := zif_t c1439 hf
      refine kif_t c1439 ?_
      exact cs_X0_halvingLine_b12 E h hf
    · have hf := zif_f c1439 hf
      refine kif_f c1439 ?_
      cases hf
def c_X0_halvingLine (E : zE) (N : iN) (p1 : Int32) (p2 : Nat) (s : cT) (g : zH) : Option (Int32 × (cT × zH)) :=
  c_X0_halvingLine_b0 E N p1 p2 s g
theorem cs_X0_halvingLine (E : zE) {s : cT} {g : zH} (h : iH p s g N) {p1 : Int32} {p2 : Nat} (hq_p2 : p.2 p2 = none) (hf : c_X0_halvingLine E N p1 p2 s g = some (r, (s9, g9))) : f_X0_halvingLine E (p.1 1) p1 p2 (cH p s g) = some (r, cH p s9 g9) ∧ iH p s9 g9 N := by
  unfold c_X0_halvingLine at hf
  unfold f_X0_halvingLine
  exact cs_X0_halvingLine_b0 E h hq_p2 hf
end
section
variable {p : cP} {N : iN} {r : Int32} {s9 : cT} {g9 : zH}
def c_X0_royalty_b13 (E : zE) (N : iN) (s0 : Nat) (s : cT) (g : zH) : Option (Int32 × (cT × zH)) :=
  some ((1 : Int32), (s, g))
theorem cs_X0_royalty_b13 (E : zE) {s : cT} {g : zH} (h : iH p s g N) {s0 : Nat} (hf : c_X0_royalty_b13 E N s0 s g = some (r, (s9, g9))) : f_X0_royalty_b13 E s0 (cH p s g) = some (r, cH p s9 g9) ∧ iH p s9 g9 N := by
  unfold c_X0_royalty_b13 at hf
  unfold f_X0_royalty_b13
  cases hf
  exact ⟨rfl, h⟩
def c_X0_royalty_b17 (E : zE) (N : iN) (s0 : Nat) (s : cT) (g : zH) : Option (Int32 × (cT × zH)) :=
  some ((2 : Int32), (s, g))
theorem cs_X0_royalty_b17 (E : zE) {s : cT} {g : zH} (h : iH p s g N) {s0 : Nat} (hf : c_X0_royalty_b17 E N s0 s g = some (r, (s9, g9))) : f_X0_royalty_b17 E s0 (cH p s g) = some (r, cH p s9 g9) ∧ iH p s9 g9 N := by
  unfold c_X0_royalty_b17 at hf
  unfold f_X0_royalty_b17
  cases hf
  exact ⟨rfl, h⟩
def c_X0_royalty_b0 (E : zE) (N : iN) (p1 : Int32) (p2 : Int64) (p4 : Nat) (s : cT) (g : zH) : Option (Int32 × (cT × zH)) :=
  bnd2 (c_X1_royalty E N p1 p2 s g) fun x4 z1441 =>
  Sum.elim (fun x5 => (
    (sL z1441.2 p4 (0 : Int32) x5).bind fun g1444 =>
    some ((0 : Int32), (z1441.1, g1444))
  )) (fun q6 => (
    if q6.1 = 20 then (
      c_X0_royalty_b13 E N q6.2 z1441.1 z1441.2
    ) else (
      if q6.1 = 21 then (
        c_X0_royalty_b17 E N q6.2 z1441.1 z1441.2
      ) else (
        none
      )
    )
  )) x4
theorem cs_X0_royalty_b0 (E : zE) {s : cT} {g : zH} (h : iH p s g N) {p1 : Int32} {p2 : Int64} {p4 : Nat} (hq_p4 : p.2 p4 = none) (hf : c_X0_royalty_b0 E N p1 p2 p4 s g = some (r, (s9, g9))) : f_X0_royalty_b0 E (p.1 1) p1 p2 p4 (cH p s g) = some (r, cH p s9 g9) ∧ iH p s9 g9 N := by
  unfold c_X0_royalty_b0 at hf
  unfold f_X0_royalty_b0
  refine kb1 (a_X_ck h) ?_
  obtain ⟨x4, z1441, e1440, hf⟩ := zbind2 hf
  obtain ⟨e1440, h⟩ := cs_X1_royalty E h e1440
  refine kbc e1440 ?_
  rcases x4 with x5 | q6
  · have hf := zinl hf
    refine kel0_l ?_
    obtain ⟨g1444, e1443, hf⟩ := zbind hf
    refine kb1 ((r_sL hq_p4 _ _).trans (congrArg (Option.map (cH p _)) e1443)) ?_
    have h := iH_g h (gle_sL e1443)
    cases hf
    exact ⟨rfl, h⟩
  · have hf := zinr hf
    refine kel0_r ?_
    by_cases c1445 : q6.1 = 20
    · have hf := zif_t c1445 hf
      refine kif_t c1445 ?_
      exact cs_X0_royalty_b13 E h hf
    · have hf := zif_f c1445 hf
      refine kif_f c1445 ?_
      by_cases c1446 : q6.1 = 21
      · have hf := zif_t c1446 hf
        refine kif_t c1446 ?_
        exact cs_X0_royalty_b17 E h hf
      · have hf := zif_f c1446 hf
        refine kif_f c1446 ?_
        cases hf
def c_X0_royalty (E : zE) (N : iN) (p1 : Int32) (p2 : Int64) (p4 : Nat) (s : cT) (g : zH) : Option (Int32 × (cT × zH)) :=
  c_X0_royalty_b0 E N p1 p2 p4 s g
theorem cs_X0_royalty (E : zE) {s : cT} {g : zH} (h : iH p s g N) {p1 : Int32} {p2 : Int64} {p4 : Nat} (hq_p4 : p.2 p4 = none) (hf : c_X0_royalty E N p1 p2 p4 s g = some (r, (s9, g9))) : f_X0_royalty E (p.1 1) p1 p2 p4 (cH p s g) = some (r, cH p s9 g9) ∧ iH p s9 g9 N := by
  unfold c_X0_royalty at hf
  unfold f_X0_royalty
  exact cs_X0_royalty_b0 E h hq_p4 hf
end
section
variable {p : cP} {N : iN} {r : Int32} {s9 : cT} {g9 : zH}
def c_X0_planOf_b12 (E : zE) (N : iN) (s0 : Nat) (s : cT) (g : zH) : Option (Int32 × (cT × zH)) :=
  some ((1 : Int32), (s, g))
theorem cs_X0_planOf_b12 (E : zE) {s : cT} {g : zH} (h : iH p s g N) {s0 : Nat} (hf : c_X0_planOf_b12 E N s0 s g = some (r, (s9, g9))) : f_X0_planOf_b12 E s0 (cH p s g) = some (r, cH p s9 g9) ∧ iH p s9 g9 N := by
  unfold c_X0_planOf_b12 at hf
  unfold f_X0_planOf_b12
  cases hf
  exact ⟨rfl, h⟩
def c_X0_planOf_b0 (E : zE) (N : iN) (p1 : Int32) (p2 : Nat) (s : cT) (g : zH) : Option (Int32 × (cT × zH)) :=
  bnd2 (c_X1_planOf E N p1 s g) fun x4 z1448 =>
  Sum.elim (fun x5 => (
    (sL z1448.2 p2 (0 : Int32) (x5.toInt64)).bind fun g1451 =>
    some ((0 : Int32), (z1448.1, g1451))
  )) (fun q6 => (
    if q6.1 = 20 then (
      c_X0_planOf_b12 E N q6.2 z1448.1 z1448.2
    ) else (
      none
    )
  )) x4
theorem cs_X0_planOf_b0 (E : zE) {s : cT} {g : zH} (h : iH p s g N) {p1 : Int32} {p2 : Nat} (hq_p2 : p.2 p2 = none) (hf : c_X0_planOf_b0 E N p1 p2 s g = some (r, (s9, g9))) : f_X0_planOf_b0 E (p.1 1) p1 p2 (cH p s g) = some (r, cH p s9 g9) ∧ iH p s9 g9 N := by
  unfold c_X0_planOf_b0 at hf
  unfold f_X0_planOf_b0
  refine kb1 (a_X_ck h) ?_
  obtain ⟨x4, z1448, e1447, hf⟩ := zbind2 hf
  obtain ⟨e1447, h⟩ := cs_X1_planOf E h e1447
  refine kbc e1447 ?_
  rcases x4 with x5 | q6
  · have hf := zinl hf
    refine kel0_l ?_
    obtain ⟨g1451, e1450, hf⟩ := zbind hf
    refine kb1 ((r_sL hq_p2 _ _).trans (congrArg (Option.map (cH p _)) e1450)) ?_
    have h := iH_g h (gle_sL e1450)
    cases hf
    exact ⟨rfl, h⟩
  · have hf := zinr hf
    refine kel0_r ?_
    by_cases c1452 : q6.1 = 20
    · have hf := zif_t c1452 hf
      refine kif_t c1452 ?_
      exact cs_X0_planOf_b12 E h hf
    · have hf := zif_f c1452 hf
      refine kif_f c1452 ?_
      cases hf
def c_X0_planOf (E : zE) (N : iN) (p1 : Int32) (p2 : Nat) (s : cT) (g : zH) : Option (Int32 × (cT × zH)) :=
  c_X0_planOf_b0 E N p1 p2 s g
theorem cs_X0_planOf (E : zE) {s : cT} {g : zH} (h : iH p s g N) {p1 : Int32} {p2 : Nat} (hq_p2 : p.2 p2 = none) (hf : c_X0_planOf E N p1 p2 s g = some (r, (s9, g9))) : f_X0_planOf E (p.1 1) p1 p2 (cH p s g) = some (r, cH p s9 g9) ∧ iH p s9 g9 N := by
  unfold c_X0_planOf at hf
  unfold f_X0_planOf
  exact cs_X0_planOf_b0 E h hq_p2 hf
end
section
variable {p : cP} {N : iN} {r : Int32} {s9 : cT} {g9 : zH}
def c_X0_setPlan_b13 (E : zE) (N : iN) (s0 : Nat) (s : cT) (g : zH) : Option (Int32 × (cT × zH)) :=
  some ((1 : Int32), (s, g))
theorem cs_X0_setPlan_b13 (E : zE) {s : cT} {g : zH} (h : iH p s g N) {s0 : Nat} (hf : c_X0_setPlan_b13 E N s0 s g = some (r, (s9, g9))) : f_X0_setPlan_b13 E s0 (cH p s g) = some (r, cH p s9 g9) ∧ iH p s9 g9 N := by
  unfold c_X0_setPlan_b13 at hf
  unfold f_X0_setPlan_b13
  cases hf
  exact ⟨rfl, h⟩
def c_X0_setPlan_b0 (E : zE) (N : iN) (p1 : Int32) (p2 : Int32) (p3 : Nat) (s : cT) (g : zH) : Option (Int32 × (cT × zH)) :=
  bnd2 (c_X1_setPlan E N p1 p2 s g) fun x4 z1454 =>
  Sum.elim (fun x5 => (
    (sL z1454.2 p3 (0 : Int32) (x5.toInt64)).bind fun g1457 =>
    some ((0 : Int32), (z1454.1, g1457))
  )) (fun q6 => (
    if q6.1 = 20 then (
      c_X0_setPlan_b13 E N q6.2 z1454.1 z1454.2
    ) else (
      none
    )
  )) x4
theorem cs_X0_setPlan_b0 (E : zE) {s : cT} {g : zH} (h : iH p s g N) {p1 : Int32} {p2 : Int32} {p3 : Nat} (hq_p3 : p.2 p3 = none) (hf : c_X0_setPlan_b0 E N p1 p2 p3 s g = some (r, (s9, g9))) : f_X0_setPlan_b0 E (p.1 1) p1 p2 p3 (cH p s g) = some (r, cH p s9 g9) ∧ iH p s9 g9 N := by
  unfold c_X0_setPlan_b0 at hf
  unfold f_X0_setPlan_b0
  refine kb1 (a_X_ck h) ?_
  obtain ⟨x4, z1454, e1453, hf⟩ := zbind2 hf
  obtain ⟨e1453, h⟩ := cs_X1_setPlan E h e1453
  refine kbc e1453 ?_
  rcases x4 with x5 | q6
  · have hf := zinl hf
    refine kel0_l ?_
    obtain ⟨g1457, e1456, hf⟩ := zbind hf
    refine kb1 ((r_sL hq_p3 _ _).trans (congrArg (Option.map (cH p _)) e1456)) ?_
    have h := iH_g h (gle_sL e1456)
    cases hf
    exact ⟨rfl, h⟩
  · have hf := zinr hf
    refine kel0_r ?_
    by_cases c1458 : q6.1 = 20
    · have hf := zif_t c1458 hf
      refine kif_t c1458 ?_
      exact cs_X0_setPlan_b13 E h hf
    · have hf := zif_f c1458 hf
      refine kif_f c1458 ?_
      cases hf
def c_X0_setPlan (E : zE) (N : iN) (p1 : Int32) (p2 : Int32) (p3 : Nat) (s : cT) (g : zH) : Option (Int32 × (cT × zH)) :=
  c_X0_setPlan_b0 E N p1 p2 p3 s g
theorem cs_X0_setPlan (E : zE) {s : cT} {g : zH} (h : iH p s g N) {p1 : Int32} {p2 : Int32} {p3 : Nat} (hq_p3 : p.2 p3 = none) (hf : c_X0_setPlan E N p1 p2 p3 s g = some (r, (s9, g9))) : f_X0_setPlan E (p.1 1) p1 p2 p3 (cH p s g) = some (r, cH p s9 g9) ∧ iH p s9 g9 N := by
  unfold c_X0_setPlan at hf
  unfold f_X0_setPlan
  exact cs_X0_setPlan_b0 E h hq_p3 hf
end
section
variable {p : cP} {N : iN} {r : Int32} {s9 : cT} {g9 : zH}
def c_X0_cheapestPlan_b12 (E : zE) (N : iN) (s0 : Nat) (s : cT) (g : zH) : Option (Int32 × (cT × zH)) :=
  some ((1 : Int32), (s, g))
theorem cs_X0_cheapestPlan_b12 (E : zE) {s : cT} {g : zH} (h : iH p s g N) {s0 : Nat} (hf : c_X0_cheapestPlan_b12 E N s0 s g = some (r, (s9, g9))) : f_X0_cheapestPlan_b12 E s0 (cH p s g) = some (r, cH p s9 g9) ∧ iH p s9 g9 N := by
  unfold c_X0_cheapestPlan_b12 at hf
  unfold f_X0_cheapestPlan_b12
  cases hf
  exact ⟨rfl, h⟩
def c_X0_cheapestPlan_b0 (E : zE) (N : iN) (p1 : Int32) (p2 : Nat) (s : cT) (g : zH) : Option (Int32 × (cT × zH)) :=
  bnd2 (c_X1_cheapestPlan E N p1 s g) fun x4 z1460 =>
  Sum.elim (fun x5 => (
    (sL z1460.2 p2 (0 : Int32) (x5.toInt64)).bind fun g1463 =>
    some ((0 : Int32), (z1460.1, g1463))
  )) (fun q6 => (
    if q6.1 = 20 then (
      c_X0_cheapestPlan_b12 E N q6.2 z1460.1 z1460.2
    ) else (
      none
    )
  )) x4
theorem cs_X0_cheapestPlan_b0 (E : zE) {s : cT} {g : zH} (h : iH p s g N) {p1 : Int32} {p2 : Nat} (hq_p2 : p.2 p2 = none) (hf : c_X0_cheapestPlan_b0 E N p1 p2 s g = some (r, (s9, g9))) : f_X0_cheapestPlan_b0 E (p.1 1) p1 p2 (cH p s g) = some (r, cH p s9 g9) ∧ iH p s9 g9 N := by
  unfold c_X0_cheapestPlan_b0 at hf
  unfold f_X0_cheapestPlan_b0
  refine kb1 (a_X_ck h) ?_
  obtain ⟨x4, z1460, e1459, hf⟩ := zbind2 hf
  obtain ⟨e1459, h⟩ := cs_X1_cheapestPlan E h e1459
  refine kbc e1459 ?_
  rcases x4 with x5 | q6
  · have hf := zinl hf
    refine kel0_l ?_
    obtain ⟨g1463, e1462, hf⟩ := zbind hf
    refine kb1 ((r_sL hq_p2 _ _).trans (congrArg (Option.map (cH p _)) e1462)) ?_
    have h := iH_g h (gle_sL e1462)
    cases hf
    exact ⟨rfl, h⟩
  · have hf := zinr hf
    refine kel0_r ?_
    by_cases c1464 : q6.1 = 20
    · have hf := zif_t c1464 hf
      refine kif_t c1464 ?_
      exact cs_X0_cheapestPlan_b12 E h hf
    · have hf := zif_f c1464 hf
      refine kif_f c1464 ?_
      cases hf
def c_X0_cheapestPlan (E : zE) (N : iN) (p1 : Int32) (p2 : Nat) (s : cT) (g : zH) : Option (Int32 × (cT × zH)) :=
  c_X0_cheapestPlan_b0 E N p1 p2 s g
theorem cs_X0_cheapestPlan (E : zE) {s : cT} {g : zH} (h : iH p s g N) {p1 : Int32} {p2 : Nat} (hq_p2 : p.2 p2 = none) (hf : c_X0_cheapestPlan E N p1 p2 s g = some (r, (s9, g9))) : f_X0_cheapestPlan E (p.1 1) p1 p2 (cH p s g) = some (r, cH p s9 g9) ∧ iH p s9 g9 N := by
  unfold c_X0_cheapestPlan at hf
  unfold f_X0_cheapestPlan
  exact cs_X0_cheapestPlan_b0 E h hq_p2 hf
end
section
variable {p : cP} {N : iN} {r : Int32} {s9 : cT} {g9 : zH}
def c_X0_reportSales_b13 (E : zE) (N : iN) (s0 : Nat) (s : cT) (g : zH) : Option (Int32 × (cT × zH)) :=
  some ((1 : Int32), (s, g))
theorem cs_X0_reportSales_b13 (E : zE) {s : cT} {g : zH} (h : iH p s g N) {s0 : Nat} (hf : c_X0_reportSales_b13 E N s0 s g = some (r, (s9, g9))) : f_X0_reportSales_b13 E s0 (cH p s g) = some (r, cH p s9 g9) ∧ iH p s9 g9 N := by
  unfold c_X0_reportSales_b13 at hf
  unfold f_X0_reportSales_b13
  cases hf
  exact ⟨rfl, h⟩
def c_X0_reportSales_b17 (E : zE) (N : iN) (s0 : Nat) (s : cT) (g : zH) : Option (Int32 × (cT × zH)) :=
  some ((2 : Int32), (s, g))
theorem cs_X0_reportSales_b17 (E : zE) {s : cT} {g : zH} (h : iH p s g N) {s0 : Nat} (hf : c_X0_reportSales_b17 E N s0 s g = some (r, (s9, g9))) : f_X0_reportSales_b17 E s0 (cH p s g) = some (r, cH p s9 g9) ∧ iH p s9 g9 N := by
  unfold c_X0_reportSales_b17 at hf
  unfold f_X0_reportSales_b17
  cases hf
  exact ⟨rfl, h⟩
def c_X0_reportSales_b21 (E : zE) (N : iN) (s0 : Nat) (s : cT) (g : zH) : Option (Int32 × (cT × zH)) :=
  some ((3 : Int32), (s, g))
theorem cs_X0_reportSales_b21 (E : zE) {s : cT} {g : zH} (h : iH p s g N) {s0 : Nat} (hf : c_X0_reportSales_b21 E N s0 s g = some (r, (s9, g9))) : f_X0_reportSales_b21 E s0 (cH p s g) = some (r, cH p s9 g9) ∧ iH p s9 g9 N := by
  unfold c_X0_reportSales_b21 at hf
  unfold f_X0_reportSales_b21
  cases hf
  exact ⟨rfl, h⟩
def c_X0_reportSales_b0 (E : zE) (N : iN) (p1 : Int32) (p2 : Int64) (p4 : Nat) (s : cT) (g : zH) : Option (Int32 × (cT × zH)) :=
  bnd2 (c_X1_reportSales E N p1 p2 s g) fun x4 z1466 =>
  Sum.elim (fun x5 => (
    (sL z1466.2 p4 (0 : Int32) x5).bind fun g1469 =>
    some ((0 : Int32), (z1466.1, g1469))
  )) (fun q6 => (
    if q6.1 = 20 then (
      c_X0_reportSales_b13 E N q6.2 z1466.1 z1466.2
    ) else (
      if q6.1 = 21 then (
        c_X0_reportSales_b17 E N q6.2 z1466.1 z1466.2
      ) else (
        if q6.1 = 22 then (
          c_X0_reportSales_b21 E N q6.2 z1466.1 z1466.2
        ) else (
          none
        )
      )
    )
  )) x4
theorem cs_X0_reportSales_b0 (E : zE) {s : cT} {g : zH} (h : iH p s g N) {p1 : Int32} {p2 : Int64} {p4 : Nat} (hq_p4 : p.2 p4 = none) (hf : c_X0_reportSales_b0 E N p1 p2 p4 s g = some (r, (s9, g9))) : f_X0_reportSales_b0 E (p.1 1) p1 p2 p4 (cH p s g) = some (r, cH p s9 g9) ∧ iH p s9 g9 N := by
  unfold c_X0_reportSales_b0 at hf
  unfold f_X0_reportSales_b0
  refine kb1 (a_X_ck h) ?_
  obtain ⟨x4, z1466, e1465, hf⟩ := zbind2 hf
  obtain ⟨e1465, h⟩ := cs_X1_reportSales E h e1465
  refine kbc e1465 ?_
  rcases x4 with x5 | q6
  · have hf := zinl hf
    refine kel0_l ?_
    obtain ⟨g1469, e1468, hf⟩ := zbind hf
    refine kb1 ((r_sL hq_p4 _ _).trans (congrArg (Option.map (cH p _)) e1468)) ?_
    have h := iH_g h (gle_sL e1468)
    cases hf
    exact ⟨rfl, h⟩
  · have hf := zinr hf
    refine kel0_r ?_
    by_cases c1470 : q6.1 = 20
    · have hf := zif_t c1470 hf
      refine kif_t c1470 ?_
      exact cs_X0_reportSales_b13 E h hf
    · have hf := zif_f c1470 hf
      refine kif_f c1470 ?_
      by_cases c1471 : q6.1 = 21
      · have hf := zif_t c1471 hf
        refine kif_t c1471 ?_
        exact cs_X0_reportSales_b17 E h hf
      · have hf := zif_f c1471 hf
        refine kif_f c1471 ?_
        by_cases c1472 : q6.1 = 22
        · have hf := zif_t c1472 hf
          refine kif_t c1472 ?_
          exact cs_X0_reportSales_b21 E h hf
        · have hf := zif_f c1472 hf
          refine kif_f c1472 ?_
          cases hf
def c_X0_reportSales (E : zE) (N : iN) (p1 : Int32) (p2 : Int64) (p4 : Nat) (s : cT) (g : zH) : Option (Int32 × (cT × zH)) :=
  c_X0_reportSales_b0 E N p1 p2 p4 s g
theorem cs_X0_reportSales (E : zE) {s : cT} {g : zH} (h : iH p s g N) {p1 : Int32} {p2 : Int64} {p4 : Nat} (hq_p4 : p.2 p4 = none) (hf : c_X0_reportSales E N p1 p2 p4 s g = some (r, (s9, g9))) : f_X0_reportSales E (p.1 1) p1 p2 p4 (cH p s g) = some (r, cH p s9 g9) ∧ iH p s9 g9 N := by
  unfold c_X0_reportSales at hf
  unfold f_X0_reportSales
  exact cs_X0_reportSales_b0 E h hq_p4 hf
end
section
variable {p : cP} {N : iN} {r : Int32} {s9 : cT} {g9 : zH}
def c_X0_deliver_b16 (E : zE) (N : iN) (s0 : Nat) (s : cT) (g : zH) : Option (Int32 × (cT × zH)) :=
  some ((1 : Int32), (s, g))
theorem cs_X0_deliver_b16 (E : zE) {s : cT} {g : zH} (h : iH p s g N) {s0 : Nat} (hf : c_X0_deliver_b16 E N s0 s g = some (r, (s9, g9))) : f_X0_deliver_b16 E s0 (cH p s g) = some (r, cH p s9 g9) ∧ iH p s9 g9 N := by
  unfold c_X0_deliver_b16 at hf
  unfold f_X0_deliver_b16
  cases hf
  exact ⟨rfl, h⟩
def c_X0_deliver_b20 (E : zE) (N : iN) (s0 : Nat) (s : cT) (g : zH) : Option (Int32 × (cT × zH)) :=
  some ((2 : Int32), (s, g))
theorem cs_X0_deliver_b20 (E : zE) {s : cT} {g : zH} (h : iH p s g N) {s0 : Nat} (hf : c_X0_deliver_b20 E N s0 s g = some (r, (s9, g9))) : f_X0_deliver_b20 E s0 (cH p s g) = some (r, cH p s9 g9) ∧ iH p s9 g9 N := by
  unfold c_X0_deliver_b20 at hf
  unfold f_X0_deliver_b20
  cases hf
  exact ⟨rfl, h⟩
def c_X0_deliver_b24 (E : zE) (N : iN) (s0 : Nat) (s : cT) (g : zH) : Option (Int32 × (cT × zH)) :=
  some ((3 : Int32), (s, g))
theorem cs_X0_deliver_b24 (E : zE) {s : cT} {g : zH} (h : iH p s g N) {s0 : Nat} (hf : c_X0_deliver_b24 E N s0 s g = some (r, (s9, g9))) : f_X0_deliver_b24 E s0 (cH p s g) = some (r, cH p s9 g9) ∧ iH p s9 g9 N := by
  unfold c_X0_deliver_b24 at hf
  unfold f_X0_deliver_b24
  cases hf
  exact ⟨rfl, h⟩
def c_X0_deliver_b0 (E : zE) (N : iN) (p1 : Int32) (p2 : Int32) (p3 : Int32) (p4 : Int64) (p6 : Nat) (s : cT) (g : zH) : Option (Int32 × (cT × zH)) :=
  bnd2 (c_X1_deliver E N p1 p2 p3 p4 s g) fun x4 z1474 =>
  Sum.elim (fun x5 => (
    (sL z1474.2 p6 (0 : Int32) x5).bind fun g1477 =>
    some ((0 : Int32), (z1474.1, g1477))
  )) (fun q6 => (
    if q6.1 = 20 then (
      c_X0_deliver_b16 E N q6.2 z1474.1 z1474.2
    ) else (
      if q6.1 = 21 then (
        c_X0_deliver_b20 E N q6.2 z1474.1 z1474.2
      ) else (
        if q6.1 = 22 then (
          c_X0_deliver_b24 E N q6.2 z1474.1 z1474.2
        ) else (
          none
        )
      )
    )
  )) x4
theorem cs_X0_deliver_b0 (E : zE) {s : cT} {g : zH} (h : iH p s g N) {p1 : Int32} {p2 : Int32} {p3 : Int32} {p4 : Int64} {p6 : Nat} (hq_p6 : p.2 p6 = none) (hf : c_X0_deliver_b0 E N p1 p2 p3 p4 p6 s g = some (r, (s9, g9))) : f_X0_deliver_b0 E (p.1 1) p1 p2 p3 p4 p6 (cH p s g) = some (r, cH p s9 g9) ∧ iH p s9 g9 N := by
  unfold c_X0_deliver_b0 at hf
  unfold f_X0_deliver_b0
  refine kb1 (a_X_ck h) ?_
  obtain ⟨x4, z1474, e1473, hf⟩ := zbind2 hf
  obtain ⟨e1473, h⟩ := cs_X1_deliver E h e1473
  refine kbc e1473 ?_
  rcases x4 with x5 | q6
  · have hf := zinl hf
    refine kel0_l ?_
    obtain ⟨g1477, e1476, hf⟩ := zbind hf
    refine kb1 ((r_sL hq_p6 _ _).trans (congrArg (Option.map (cH p _)) e1476)) ?_
    have h := iH_g h (gle_sL e1476)
    cases hf
    exact ⟨rfl, h⟩
  · have hf := zinr hf
    refine kel0_r ?_
    by_cases c1478 : q6.1 = 20
    · have hf := zif_t c1478 hf
      refine kif_t c1478 ?_
      exact cs_X0_deliver_b16 E h hf
    · have hf := zif_f c1478 hf
      refine kif_f c1478 ?_
      by_cases c1479 : q6.1 = 21
      · have hf := zif_t c1479 hf
        refine kif_t c1479 ?_
        exact cs_X0_deliver_b20 E h hf
      · have hf := zif_f c1479 hf
        refine kif_f c1479 ?_
        by_cases c1480 : q6.1 = 22
        · have hf := zif_t c1480 hf
          refine kif_t c1480 ?_
          exact cs_X0_deliver_b24 E h hf
        · have hf := zif_f c1480 hf
          refine kif_f c1480 ?_
          cases hf
def c_X0_deliver (E : zE) (N : iN) (p1 : Int32) (p2 : Int32) (p3 : Int32) (p4 : Int64) (p6 : Nat) (s : cT) (g : zH) : Option (Int32 × (cT × zH)) :=
  c_X0_deliver_b0 E N p1 p2 p3 p4 p6 s g
theorem cs_X0_deliver (E : zE) {s : cT} {g : zH} (h : iH p s g N) {p1 : Int32} {p2 : Int32} {p3 : Int32} {p4 : Int64} {p6 : Nat} (hq_p6 : p.2 p6 = none) (hf : c_X0_deliver E N p1 p2 p3 p4 p6 s g = some (r, (s9, g9))) : f_X0_deliver E (p.1 1) p1 p2 p3 p4 p6 (cH p s g) = some (r, cH p s9 g9) ∧ iH p s9 g9 N := by
  unfold c_X0_deliver at hf
  unfold f_X0_deliver
  exact cs_X0_deliver_b0 E h hq_p6 hf
end
section
variable {p : cP} {N : iN} {r : Int32} {s9 : cT} {g9 : zH}
def c_X0_sales_b11 (E : zE) (N : iN) (s0 : Nat) (s : cT) (g : zH) : Option (Int32 × (cT × zH)) :=
  some ((1 : Int32), (s, g))
theorem cs_X0_sales_b11 (E : zE) {s : cT} {g : zH} (h : iH p s g N) {s0 : Nat} (hf : c_X0_sales_b11 E N s0 s g = some (r, (s9, g9))) : f_X0_sales_b11 E s0 (cH p s g) = some (r, cH p s9 g9) ∧ iH p s9 g9 N := by
  unfold c_X0_sales_b11 at hf
  unfold f_X0_sales_b11
  cases hf
  exact ⟨rfl, h⟩
def c_X0_sales_b0 (E : zE) (N : iN) (p1 : Int32) (p2 : Nat) (s : cT) (g : zH) : Option (Int32 × (cT × zH)) :=
  bnd2 (c_X1_sales E N p1 s g) fun x4 z1482 =>
  Sum.elim (fun x5 => (
    (sL z1482.2 p2 (0 : Int32) x5).bind fun g1485 =>
    some ((0 : Int32), (z1482.1, g1485))
  )) (fun q6 => (
    if q6.1 = 20 then (
      c_X0_sales_b11 E N q6.2 z1482.1 z1482.2
    ) else (
      none
    )
  )) x4
theorem cs_X0_sales_b0 (E : zE) {s : cT} {g : zH} (h : iH p s g N) {p1 : Int32} {p2 : Nat} (hq_p2 : p.2 p2 = none) (hf : c_X0_sales_b0 E N p1 p2 s g = some (r, (s9, g9))) : f_X0_sales_b0 E (p.1 1) p1 p2 (cH p s g) = some (r, cH p s9 g9) ∧ iH p s9 g9 N := by
  unfold c_X0_sales_b0 at hf
  unfold f_X0_sales_b0
  refine kb1 (a_X_ck h) ?_
  obtain ⟨x4, z1482, e1481, hf⟩ := zbind2 hf
  obtain ⟨e1481, h⟩ := cs_X1_sales E h e1481
  refine kbc e1481 ?_
  rcases x4 with x5 | q6
  · have hf := zinl hf
    refine kel0_l ?_
    obtain ⟨g1485, e1484, hf⟩ := zbind hf
    refine kb1 ((r_sL hq_p2 _ _).trans (congrArg (Option.map (cH p _)) e1484)) ?_
    have h := iH_g h (gle_sL e1484)
    cases hf
    exact ⟨rfl, h⟩
  · have hf := zinr hf
    refine kel0_r ?_
    by_cases c1486 : q6.1 = 20
    · have hf := zif_t c1486 hf
      refine kif_t c1486 ?_
      exact cs_X0_sales_b11 E h hf
    · have hf := zif_f c1486 hf
      refine kif_f c1486 ?_
      cases hf
def c_X0_sales (E : zE) (N : iN) (p1 : Int32) (p2 : Nat) (s : cT) (g : zH) : Option (Int32 × (cT × zH)) :=
  c_X0_sales_b0 E N p1 p2 s g
theorem cs_X0_sales (E : zE) {s : cT} {g : zH} (h : iH p s g N) {p1 : Int32} {p2 : Nat} (hq_p2 : p.2 p2 = none) (hf : c_X0_sales E N p1 p2 s g = some (r, (s9, g9))) : f_X0_sales E (p.1 1) p1 p2 (cH p s g) = some (r, cH p s9 g9) ∧ iH p s9 g9 N := by
  unfold c_X0_sales at hf
  unfold f_X0_sales
  exact cs_X0_sales_b0 E h hq_p2 hf
end
section
variable {p : cP} {N : iN} {r : Int32} {s9 : cT} {g9 : zH}
def c_X0_salesOf_b12 (E : zE) (N : iN) (s0 : Nat) (s : cT) (g : zH) : Option (Int32 × (cT × zH)) :=
  some ((1 : Int32), (s, g))
theorem cs_X0_salesOf_b12 (E : zE) {s : cT} {g : zH} (h : iH p s g N) {s0 : Nat} (hf : c_X0_salesOf_b12 E N s0 s g = some (r, (s9, g9))) : f_X0_salesOf_b12 E s0 (cH p s g) = some (r, cH p s9 g9) ∧ iH p s9 g9 N := by
  unfold c_X0_salesOf_b12 at hf
  unfold f_X0_salesOf_b12
  cases hf
  exact ⟨rfl, h⟩
def c_X0_salesOf_b16 (E : zE) (N : iN) (s0 : Nat) (s : cT) (g : zH) : Option (Int32 × (cT × zH)) :=
  some ((2 : Int32), (s, g))
theorem cs_X0_salesOf_b16 (E : zE) {s : cT} {g : zH} (h : iH p s g N) {s0 : Nat} (hf : c_X0_salesOf_b16 E N s0 s g = some (r, (s9, g9))) : f_X0_salesOf_b16 E s0 (cH p s g) = some (r, cH p s9 g9) ∧ iH p s9 g9 N := by
  unfold c_X0_salesOf_b16 at hf
  unfold f_X0_salesOf_b16
  cases hf
  exact ⟨rfl, h⟩
def c_X0_salesOf_b0 (E : zE) (N : iN) (p1 : Int32) (p2 : Int32) (p3 : Nat) (s : cT) (g : zH) : Option (Int32 × (cT × zH)) :=
  bnd2 (c_X1_salesOf E N p1 p2 s g) fun x4 z1488 =>
  Sum.elim (fun x5 => (
    (sL z1488.2 p3 (0 : Int32) x5).bind fun g1491 =>
    some ((0 : Int32), (z1488.1, g1491))
  )) (fun q6 => (
    if q6.1 = 20 then (
      c_X0_salesOf_b12 E N q6.2 z1488.1 z1488.2
    ) else (
      if q6.1 = 21 then (
        c_X0_salesOf_b16 E N q6.2 z1488.1 z1488.2
      ) else (
        none
      )
    )
  )) x4
theorem cs_X0_salesOf_b0 (E : zE) {s : cT} {g : zH} (h : iH p s g N) {p1 : Int32} {p2 : Int32} {p3 : Nat} (hq_p3 : p.2 p3 = none) (hf : c_X0_salesOf_b0 E N p1 p2 p3 s g = some (r, (s9, g9))) : f_X0_salesOf_b0 E (p.1 1) p1 p2 p3 (cH p s g) = some (r, cH p s9 g9) ∧ iH p s9 g9 N := by
  unfold c_X0_salesOf_b0 at hf
  unfold f_X0_salesOf_b0
  refine kb1 (a_X_ck h) ?_
  obtain ⟨x4, z1488, e1487, hf⟩ := zbind2 hf
  obtain ⟨e1487, h⟩ := cs_X1_salesOf E h e1487
  refine kbc e1487 ?_
  rcases x4 with x5 | q6
  · have hf := zinl hf
    refine kel0_l ?_
    obtain ⟨g1491, e1490, hf⟩ := zbind hf
    refine kb1 ((r_sL hq_p3 _ _).trans (congrArg (Option.map (cH p _)) e1490)) ?_
    have h := iH_g h (gle_sL e1490)
    cases hf
    exact ⟨rfl, h⟩
  · have hf := zinr hf
    refine kel0_r ?_
    by_cases c1492 : q6.1 = 20
    · have hf := zif_t c1492 hf
      refine kif_t c1492 ?_
      exact cs_X0_salesOf_b12 E h hf
    · have hf := zif_f c1492 hf
      refine kif_f c1492 ?_
      by_cases c1493 : q6.1 = 21
      · have hf := zif_t c1493 hf
        refine kif_t c1493 ?_
        exact cs_X0_salesOf_b16 E h hf
      · have hf := zif_f c1493 hf
        refine kif_f c1493 ?_
        cases hf
def c_X0_salesOf (E : zE) (N : iN) (p1 : Int32) (p2 : Int32) (p3 : Nat) (s : cT) (g : zH) : Option (Int32 × (cT × zH)) :=
  c_X0_salesOf_b0 E N p1 p2 p3 s g
theorem cs_X0_salesOf (E : zE) {s : cT} {g : zH} (h : iH p s g N) {p1 : Int32} {p2 : Int32} {p3 : Nat} (hq_p3 : p.2 p3 = none) (hf : c_X0_salesOf E N p1 p2 p3 s g = some (r, (s9, g9))) : f_X0_salesOf E (p.1 1) p1 p2 p3 (cH p s g) = some (r, cH p s9 g9) ∧ iH p s9 g9 N := by
  unfold c_X0_salesOf at hf
  unfold f_X0_salesOf
  exact cs_X0_salesOf_b0 E h hq_p3 hf
end
section
variable {p : cP} {N : iN} {r : Int32} {s9 : cT} {g9 : zH}
def c_X0_creditDue_b12 (E : zE) (N : iN) (s0 : Nat) (s : cT) (g : zH) : Option (Int32 × (cT × zH)) :=
  some ((1 : Int32), (s, g))
theorem cs_X0_creditDue_b12 (E : zE) {s : cT} {g : zH} (h : iH p s g N) {s0 : Nat} (hf : c_X0_creditDue_b12 E N s0 s g = some (r, (s9, g9))) : f_X0_creditDue_b12 E s0 (cH p s g) = some (r, cH p s9 g9) ∧ iH p s9 g9 N := by
  unfold c_X0_creditDue_b12 at hf
  unfold f_X0_creditDue_b12
  cases hf
  exact ⟨rfl, h⟩
def c_X0_creditDue_b0 (E : zE) (N : iN) (p1 : Int32) (p2 : Int32) (p3 : Nat) (s : cT) (g : zH) : Option (Int32 × (cT × zH)) :=
  bnd2 (c_X1_creditDue E N p1 p2 s g) fun x4 z1495 =>
  Sum.elim (fun x5 => (
    (sL z1495.2 p3 (0 : Int32) x5).bind fun g1498 =>
    some ((0 : Int32), (z1495.1, g1498))
  )) (fun q6 => (
    if q6.1 = 20 then (
      c_X0_creditDue_b12 E N q6.2 z1495.1 z1495.2
    ) else (
      none
    )
  )) x4
theorem cs_X0_creditDue_b0 (E : zE) {s : cT} {g : zH} (h : iH p s g N) {p1 : Int32} {p2 : Int32} {p3 : Nat} (hq_p3 : p.2 p3 = none) (hf : c_X0_creditDue_b0 E N p1 p2 p3 s g = some (r, (s9, g9))) : f_X0_creditDue_b0 E (p.1 1) p1 p2 p3 (cH p s g) = some (r, cH p s9 g9) ∧ iH p s9 g9 N := by
  unfold c_X0_creditDue_b0 at hf
  unfold f_X0_creditDue_b0
  refine kb1 (a_X_ck h) ?_
  obtain ⟨x4, z1495, e1494, hf⟩ := zbind2 hf
  obtain ⟨e1494, h⟩ := cs_X1_creditDue E h e1494
  refine kbc e1494 ?_
  rcases x4 with x5 | q6
  · have hf := zinl hf
    refine kel0_l ?_
    obtain ⟨g1498, e1497, hf⟩ := zbind hf
    refine kb1 ((r_sL hq_p3 _ _).trans (congrArg (Option.map (cH p _)) e1497)) ?_
    have h := iH_g h (gle_sL e1497)
    cases hf
    exact ⟨rfl, h⟩
  · have hf := zinr hf
    refine kel0_r ?_
    by_cases c1499 : q6.1 = 20
    · have hf := zif_t c1499 hf
      refine kif_t c1499 ?_
      exact cs_X0_creditDue_b12 E h hf
    · have hf := zif_f c1499 hf
      refine kif_f c1499 ?_
      cases hf
def c_X0_creditDue (E : zE) (N : iN) (p1 : Int32) (p2 : Int32) (p3 : Nat) (s : cT) (g : zH) : Option (Int32 × (cT × zH)) :=
  c_X0_creditDue_b0 E N p1 p2 p3 s g
theorem cs_X0_creditDue (E : zE) {s : cT} {g : zH} (h : iH p s g N) {p1 : Int32} {p2 : Int32} {p3 : Nat} (hq_p3 : p.2 p3 = none) (hf : c_X0_creditDue E N p1 p2 p3 s g = some (r, (s9, g9))) : f_X0_creditDue E (p.1 1) p1 p2 p3 (cH p s g) = some (r, cH p s9 g9) ∧ iH p s9 g9 N := by
  unfold c_X0_creditDue at hf
  unfold f_X0_creditDue
  exact cs_X0_creditDue_b0 E h hq_p3 hf
end
section
variable {p : cP} {N : iN} {r : Int32} {s9 : cT} {g9 : zH}
def c_X0_predictDue_b12 (E : zE) (N : iN) (s0 : Nat) (s : cT) (g : zH) : Option (Int32 × (cT × zH)) :=
  some ((1 : Int32), (s, g))
theorem cs_X0_predictDue_b12 (E : zE) {s : cT} {g : zH} (h : iH p s g N) {s0 : Nat} (hf : c_X0_predictDue_b12 E N s0 s g = some (r, (s9, g9))) : f_X0_predictDue_b12 E s0 (cH p s g) = some (r, cH p s9 g9) ∧ iH p s9 g9 N := by
  unfold c_X0_predictDue_b12 at hf
  unfold f_X0_predictDue_b12
  cases hf
  exact ⟨rfl, h⟩
def c_X0_predictDue_b16 (E : zE) (N : iN) (s0 : Nat) (s : cT) (g : zH) : Option (Int32 × (cT × zH)) :=
  some ((2 : Int32), (s, g))
theorem cs_X0_predictDue_b16 (E : zE) {s : cT} {g : zH} (h : iH p s g N) {s0 : Nat} (hf : c_X0_predictDue_b16 E N s0 s g = some (r, (s9, g9))) : f_X0_predictDue_b16 E s0 (cH p s g) = some (r, cH p s9 g9) ∧ iH p s9 g9 N := by
  unfold c_X0_predictDue_b16 at hf
  unfold f_X0_predictDue_b16
  cases hf
  exact ⟨rfl, h⟩
def c_X0_predictDue_b0 (E : zE) (N : iN) (p1 : Int32) (p2 : Int32) (p3 : Nat) (s : cT) (g : zH) : Option (Int32 × (cT × zH)) :=
  bnd2 (c_X1_predictDue E N p1 p2 s g) fun x4 z1503 =>
  Sum.elim (fun x5 => (
    (sL z1503.2 p3 (0 : Int32) x5).bind fun g1506 =>
    some ((0 : Int32), (z1503.1, g1506))
  )) (fun q6 => (
    if q6.1 = 20 then (
      c_X0_predictDue_b12 E N q6.2 z1503.1 z1503.2
    ) else (
      if q6.1 = 21 then (
        c_X0_predictDue_b16 E N q6.2 z1503.1 z1503.2
      ) else (
        none
      )
    )
  )) x4
theorem cs_X0_predictDue_b0 (E : zE) {s : cT} {g : zH} (h : iH p s g N) {p1 : Int32} {p2 : Int32} {p3 : Nat} (hq_p3 : p.2 p3 = none) (hf : c_X0_predictDue_b0 E N p1 p2 p3 s g = some (r, (s9, g9))) : f_X0_predictDue_b0 E (p.1 1) p1 p2 p3 (cH p s g) = some (r, cH p s9 g9) ∧ iH p s9 g9 N := by
  unfold c_X0_predictDue_b0 at hf
  unfold f_X0_predictDue_b0
  refine kb1 (a_X_ck h) ?_
  obtain ⟨x4, z1503, e1502, hf⟩ := zbind2 hf
  obtain ⟨e1502, h⟩ := cs_X1_predictDue E h e1502
  refine kbc e1502 ?_
  rcases x4 with x5 | q6
  · have hf := zinl hf
    refine kel0_l ?_
    obtain ⟨g1506, e1505, hf⟩ := zbind hf
    refine kb1 ((r_sL hq_p3 _ _).trans (congrArg (Option.map (cH p _)) e1505)) ?_
    have h := iH_g h (gle_sL e1505)
    cases hf
    exact ⟨rfl, h⟩
  · have hf := zinr hf
    refine kel0_r ?_
    by_cases c1507 : q6.1 = 20
    · have hf := zif_t c1507 hf
      refine kif_t c1507 ?_
      exact cs_X0_predictDue_b12 E h hf
    · have hf := zif_f c1507 hf
      refine kif_f c1507 ?_
      by_cases c1508 : q6.1 = 21
      · have hf := zif_t c1508 hf
        refine kif_t c1508 ?_
        exact cs_X0_predictDue_b16 E h hf
      · have hf := zif_f c1508 hf
        refine kif_f c1508 ?_
        cases hf
def c_X0_predictDue (E : zE) (N : iN) (p1 : Int32) (p2 : Int32) (p3 : Nat) (s : cT) (g : zH) : Option (Int32 × (cT × zH)) :=
  c_X0_predictDue_b0 E N p1 p2 p3 s g
theorem cs_X0_predictDue (E : zE) {s : cT} {g : zH} (h : iH p s g N) {p1 : Int32} {p2 : Int32} {p3 : Nat} (hq_p3 : p.2 p3 = none) (hf : c_X0_predictDue E N p1 p2 p3 s g = some (r, (s9, g9))) : f_X0_predictDue E (p.1 1) p1 p2 p3 (cH p s g) = some (r, cH p s9 g9) ∧ iH p s9 g9 N := by
  unfold c_X0_predictDue at hf
  unfold f_X0_predictDue
  exact cs_X0_predictDue_b0 E h hq_p3 hf
end
section
variable {p : cP} {N : iN} {r : Int32} {s9 : cT} {g9 : zH}
def c_X0_balance_b11 (E : zE) (N : iN) (s0 : Nat) (s : cT) (g : zH) : Option (Int32 × (cT × zH)) :=
  some ((1 : Int32), (s, g))
theorem cs_X0_balance_b11 (E : zE) {s : cT} {g : zH} (h : iH p s g N) {s0 : Nat} (hf : c_X0_balance_b11 E N s0 s g = some (r, (s9, g9))) : f_X0_balance_b11 E s0 (cH p s g) = some (r, cH p s9 g9) ∧ iH p s9 g9 N := by
  unfold c_X0_balance_b11 at hf
  unfold f_X0_balance_b11
  cases hf
  exact ⟨rfl, h⟩
def c_X0_balance_b0 (E : zE) (N : iN) (p1 : Int32) (p2 : Nat) (s : cT) (g : zH) : Option (Int32 × (cT × zH)) :=
  bnd2 (c_X1_balance E N p1 s g) fun x4 z1510 =>
  Sum.elim (fun x5 => (
    (sL z1510.2 p2 (0 : Int32) x5).bind fun g1513 =>
    some ((0 : Int32), (z1510.1, g1513))
  )) (fun q6 => (
    if q6.1 = 20 then (
      c_X0_balance_b11 E N q6.2 z1510.1 z1510.2
    ) else (
      none
    )
  )) x4
theorem cs_X0_balance_b0 (E : zE) {s : cT} {g : zH} (h : iH p s g N) {p1 : Int32} {p2 : Nat} (hq_p2 : p.2 p2 = none) (hf : c_X0_balance_b0 E N p1 p2 s g = some (r, (s9, g9))) : f_X0_balance_b0 E (p.1 1) p1 p2 (cH p s g) = some (r, cH p s9 g9) ∧ iH p s9 g9 N := by
  unfold c_X0_balance_b0 at hf
  unfold f_X0_balance_b0
  refine kb1 (a_X_ck h) ?_
  obtain ⟨x4, z1510, e1509, hf⟩ := zbind2 hf
  obtain ⟨e1509, h⟩ := cs_X1_balance E h e1509
  refine kbc e1509 ?_
  rcases x4 with x5 | q6
  · have hf := zinl hf
    refine kel0_l ?_
    obtain ⟨g1513, e1512, hf⟩ := zbind hf
    refine kb1 ((r_sL hq_p2 _ _).trans (congrArg (Option.map (cH p _)) e1512)) ?_
    have h := iH_g h (gle_sL e1512)
    cases hf
    exact ⟨rfl, h⟩
  · have hf := zinr hf
    refine kel0_r ?_
    by_cases c1514 : q6.1 = 20
    · have hf := zif_t c1514 hf
      refine kif_t c1514 ?_
      exact cs_X0_balance_b11 E h hf
    · have hf := zif_f c1514 hf
      refine kif_f c1514 ?_
      cases hf
def c_X0_balance (E : zE) (N : iN) (p1 : Int32) (p2 : Nat) (s : cT) (g : zH) : Option (Int32 × (cT × zH)) :=
  c_X0_balance_b0 E N p1 p2 s g
theorem cs_X0_balance (E : zE) {s : cT} {g : zH} (h : iH p s g N) {p1 : Int32} {p2 : Nat} (hq_p2 : p.2 p2 = none) (hf : c_X0_balance E N p1 p2 s g = some (r, (s9, g9))) : f_X0_balance E (p.1 1) p1 p2 (cH p s g) = some (r, cH p s9 g9) ∧ iH p s9 g9 N := by
  unfold c_X0_balance at hf
  unfold f_X0_balance
  exact cs_X0_balance_b0 E h hq_p2 hf
end
section
variable {p : cP} {N : iN} {r : Int32} {s9 : cT} {g9 : zH}
def c_X0_pay_b13 (E : zE) (N : iN) (s0 : Nat) (s : cT) (g : zH) : Option (Int32 × (cT × zH)) :=
  some ((1 : Int32), (s, g))
theorem cs_X0_pay_b13 (E : zE) {s : cT} {g : zH} (h : iH p s g N) {s0 : Nat} (hf : c_X0_pay_b13 E N s0 s g = some (r, (s9, g9))) : f_X0_pay_b13 E s0 (cH p s g) = some (r, cH p s9 g9) ∧ iH p s9 g9 N := by
  unfold c_X0_pay_b13 at hf
  unfold f_X0_pay_b13
  cases hf
  exact ⟨rfl, h⟩
def c_X0_pay_b17 (E : zE) (N : iN) (s0 : Nat) (s : cT) (g : zH) : Option (Int32 × (cT × zH)) :=
  some ((2 : Int32), (s, g))
theorem cs_X0_pay_b17 (E : zE) {s : cT} {g : zH} (h : iH p s g N) {s0 : Nat} (hf : c_X0_pay_b17 E N s0 s g = some (r, (s9, g9))) : f_X0_pay_b17 E s0 (cH p s g) = some (r, cH p s9 g9) ∧ iH p s9 g9 N := by
  unfold c_X0_pay_b17 at hf
  unfold f_X0_pay_b17
  cases hf
  exact ⟨rfl, h⟩
def c_X0_pay_b0 (E : zE) (N : iN) (p1 : Int32) (p2 : Int64) (p4 : Nat) (s : cT) (g : zH) : Option (Int32 × (cT × zH)) :=
  bnd2 (c_X1_pay E N p1 p2 s g) fun x4 z1516 =>
  Sum.elim (fun x5 => (
    (sL z1516.2 p4 (0 : Int32) x5).bind fun g1519 =>
    some ((0 : Int32), (z1516.1, g1519))
  )) (fun q6 => (
    if q6.1 = 20 then (
      c_X0_pay_b13 E N q6.2 z1516.1 z1516.2
    ) else (
      if q6.1 = 21 then (
        c_X0_pay_b17 E N q6.2 z1516.1 z1516.2
      ) else (
        none
      )
    )
  )) x4
theorem cs_X0_pay_b0 (E : zE) {s : cT} {g : zH} (h : iH p s g N) {p1 : Int32} {p2 : Int64} {p4 : Nat} (hq_p4 : p.2 p4 = none) (hf : c_X0_pay_b0 E N p1 p2 p4 s g = some (r, (s9, g9))) : f_X0_pay_b0 E (p.1 1) p1 p2 p4 (cH p s g) = some (r, cH p s9 g9) ∧ iH p s9 g9 N := by
  unfold c_X0_pay_b0 at hf
  unfold f_X0_pay_b0
  refine kb1 (a_X_ck h) ?_
  obtain ⟨x4, z1516, e1515, hf⟩ := zbind2 hf
  obtain ⟨e1515, h⟩ := cs_X1_pay E h e1515
  refine kbc e1515 ?_
  rcases x4 with x5 | q6
  · have hf := zinl hf
    refine kel0_l ?_
    obtain ⟨g1519, e1518, hf⟩ := zbind hf
    refine kb1 ((r_sL hq_p4 _ _).trans (congrArg (Option.map (cH p _)) e1518)) ?_
    have h := iH_g h (gle_sL e1518)
    cases hf
    exact ⟨rfl, h⟩
  · have hf := zinr hf
    refine kel0_r ?_
    by_cases c1520 : q6.1 = 20
    · have hf := zif_t c1520 hf
      refine kif_t c1520 ?_
      exact cs_X0_pay_b13 E h hf
    · have hf := zif_f c1520 hf
      refine kif_f c1520 ?_
      by_cases c1521 : q6.1 = 21
      · have hf := zif_t c1521 hf
        refine kif_t c1521 ?_
        exact cs_X0_pay_b17 E h hf
      · have hf := zif_f c1521 hf
        refine kif_f c1521 ?_
        cases hf
def c_X0_pay (E : zE) (N : iN) (p1 : Int32) (p2 : Int64) (p4 : Nat) (s : cT) (g : zH) : Option (Int32 × (cT × zH)) :=
  c_X0_pay_b0 E N p1 p2 p4 s g
theorem cs_X0_pay (E : zE) {s : cT} {g : zH} (h : iH p s g N) {p1 : Int32} {p2 : Int64} {p4 : Nat} (hq_p4 : p.2 p4 = none) (hf : c_X0_pay E N p1 p2 p4 s g = some (r, (s9, g9))) : f_X0_pay E (p.1 1) p1 p2 p4 (cH p s g) = some (r, cH p s9 g9) ∧ iH p s9 g9 N := by
  unfold c_X0_pay at hf
  unfold f_X0_pay
  exact cs_X0_pay_b0 E h hq_p4 hf
end
section
variable {p : cP} {N : iN} {r : Int32} {s9 : cT} {g9 : zH}
def c_X0_monthsOverdue_b12 (E : zE) (N : iN) (s0 : Nat) (s : cT) (g : zH) : Option (Int32 × (cT × zH)) :=
  some ((1 : Int32), (s, g))
theorem cs_X0_monthsOverdue_b12 (E : zE) {s : cT} {g : zH} (h : iH p s g N) {s0 : Nat} (hf : c_X0_monthsOverdue_b12 E N s0 s g = some (r, (s9, g9))) : f_X0_monthsOverdue_b12 E s0 (cH p s g) = some (r, cH p s9 g9) ∧ iH p s9 g9 N := by
  unfold c_X0_monthsOverdue_b12 at hf
  unfold f_X0_monthsOverdue_b12
  cases hf
  exact ⟨rfl, h⟩
def c_X0_monthsOverdue_b0 (E : zE) (N : iN) (p1 : Int32) (p2 : Nat) (s : cT) (g : zH) : Option (Int32 × (cT × zH)) :=
  bnd2 (c_X1_monthsOverdue E N p1 s g) fun x4 z1523 =>
  Sum.elim (fun x5 => (
    (sL z1523.2 p2 (0 : Int32) (x5.toInt64)).bind fun g1526 =>
    some ((0 : Int32), (z1523.1, g1526))
  )) (fun q6 => (
    if q6.1 = 20 then (
      c_X0_monthsOverdue_b12 E N q6.2 z1523.1 z1523.2
    ) else (
      none
    )
  )) x4
theorem cs_X0_monthsOverdue_b0 (E : zE) {s : cT} {g : zH} (h : iH p s g N) {p1 : Int32} {p2 : Nat} (hq_p2 : p.2 p2 = none) (hf : c_X0_monthsOverdue_b0 E N p1 p2 s g = some (r, (s9, g9))) : f_X0_monthsOverdue_b0 E (p.1 1) p1 p2 (cH p s g) = some (r, cH p s9 g9) ∧ iH p s9 g9 N := by
  unfold c_X0_monthsOverdue_b0 at hf
  unfold f_X0_monthsOverdue_b0
  refine kb1 (a_X_ck h) ?_
  obtain ⟨x4, z1523, e1522, hf⟩ := zbind2 hf
  obtain ⟨e1522, h⟩ := cs_X1_monthsOverdue E h e1522
  refine kbc e1522 ?_
  rcases x4 with x5 | q6
  · have hf := zinl hf
    refine kel0_l ?_
    obtain ⟨g1526, e1525, hf⟩ := zbind hf
    refine kb1 ((r_sL hq_p2 _ _).trans (congrArg (Option.map (cH p _)) e1525)) ?_
    have h := iH_g h (gle_sL e1525)
    cases hf
    exact ⟨rfl, h⟩
  · have hf := zinr hf
    refine kel0_r ?_
    by_cases c1527 : q6.1 = 20
    · have hf := zif_t c1527 hf
      refine kif_t c1527 ?_
      exact cs_X0_monthsOverdue_b12 E h hf
    · have hf := zif_f c1527 hf
      refine kif_f c1527 ?_
      cases hf
def c_X0_monthsOverdue (E : zE) (N : iN) (p1 : Int32) (p2 : Nat) (s : cT) (g : zH) : Option (Int32 × (cT × zH)) :=
  c_X0_monthsOverdue_b0 E N p1 p2 s g
theorem cs_X0_monthsOverdue (E : zE) {s : cT} {g : zH} (h : iH p s g N) {p1 : Int32} {p2 : Nat} (hq_p2 : p.2 p2 = none) (hf : c_X0_monthsOverdue E N p1 p2 s g = some (r, (s9, g9))) : f_X0_monthsOverdue E (p.1 1) p1 p2 (cH p s g) = some (r, cH p s9 g9) ∧ iH p s9 g9 N := by
  unfold c_X0_monthsOverdue at hf
  unfold f_X0_monthsOverdue
  exact cs_X0_monthsOverdue_b0 E h hq_p2 hf
end
section
variable {p : cP} {N : iN} {r : Int32} {s9 : cT} {g9 : zH}
def c_X0_payOff_b14 (E : zE) (N : iN) (s0 : Nat) (s : cT) (g : zH) : Option (Int32 × (cT × zH)) :=
  some ((1 : Int32), (s, g))
theorem cs_X0_payOff_b14 (E : zE) {s : cT} {g : zH} (h : iH p s g N) {s0 : Nat} (hf : c_X0_payOff_b14 E N s0 s g = some (r, (s9, g9))) : f_X0_payOff_b14 E s0 (cH p s g) = some (r, cH p s9 g9) ∧ iH p s9 g9 N := by
  unfold c_X0_payOff_b14 at hf
  unfold f_X0_payOff_b14
  cases hf
  exact ⟨rfl, h⟩
def c_X0_payOff_b18 (E : zE) (N : iN) (s0 : Nat) (s : cT) (g : zH) : Option (Int32 × (cT × zH)) :=
  some ((2 : Int32), (s, g))
theorem cs_X0_payOff_b18 (E : zE) {s : cT} {g : zH} (h : iH p s g N) {s0 : Nat} (hf : c_X0_payOff_b18 E N s0 s g = some (r, (s9, g9))) : f_X0_payOff_b18 E s0 (cH p s g) = some (r, cH p s9 g9) ∧ iH p s9 g9 N := by
  unfold c_X0_payOff_b18 at hf
  unfold f_X0_payOff_b18
  cases hf
  exact ⟨rfl, h⟩
def c_X0_payOff_b0 (E : zE) (N : iN) (p1 : Int32) (p2 : Int64) (p4 : Nat) (s : cT) (g : zH) : Option (Int32 × (cT × zH)) :=
  bnd2 (c_X1_payOff E N p1 p2 s g) fun x4 z1529 =>
  Sum.elim (fun x5 => (
    (sL z1529.2 p4 (0 : Int32) (x5.toInt64)).bind fun g1532 =>
    some ((0 : Int32), (z1529.1, g1532))
  )) (fun q6 => (
    if q6.1 = 20 then (
      c_X0_payOff_b14 E N q6.2 z1529.1 z1529.2
    ) else (
      if q6.1 = 21 then (
        c_X0_payOff_b18 E N q6.2 z1529.1 z1529.2
      ) else (
        none
      )
    )
  )) x4
theorem cs_X0_payOff_b0 (E : zE) {s : cT} {g : zH} (h : iH p s g N) {p1 : Int32} {p2 : Int64} {p4 : Nat} (hq_p4 : p.2 p4 = none) (hf : c_X0_payOff_b0 E N p1 p2 p4 s g = some (r, (s9, g9))) : f_X0_payOff_b0 E (p.1 1) p1 p2 p4 (cH p s g) = some (r, cH p s9 g9) ∧ iH p s9 g9 N := by
  unfold c_X0_payOff_b0 at hf
  unfold f_X0_payOff_b0
  refine kb1 (a_X_ck h) ?_
  obtain ⟨x4, z1529, e1528, hf⟩ := zbind2 hf
  obtain ⟨e1528, h⟩ := cs_X1_payOff E h e1528
  refine kbc e1528 ?_
  rcases x4 with x5 | q6
  · have hf := zinl hf
    refine kel0_l ?_
    obtain ⟨g1532, e1531, hf⟩ := zbind hf
    refine kb1 ((r_sL hq_p4 _ _).trans (congrArg (Option.map (cH p _)) e1531)) ?_
    have h := iH_g h (gle_sL e1531)
    cases hf
    exact ⟨rfl, h⟩
  · have hf := zinr hf
    refine kel0_r ?_
    by_cases c1533 : q6.1 = 20
    · have hf := zif_t c1533 hf
      refine kif_t c1533 ?_
      exact cs_X0_payOff_b14 E h hf
    · have hf := zif_f c1533 hf
      refine kif_f c1533 ?_
      by_cases c1534 : q6.1 = 21
      · have hf := zif_t c1534 hf
        refine kif_t c1534 ?_
        exact cs_X0_payOff_b18 E h hf
      · have hf := zif_f c1534 hf
        refine kif_f c1534 ?_
        cases hf
def c_X0_payOff (E : zE) (N : iN) (p1 : Int32) (p2 : Int64) (p4 : Nat) (s : cT) (g : zH) : Option (Int32 × (cT × zH)) :=
  c_X0_payOff_b0 E N p1 p2 p4 s g
theorem cs_X0_payOff (E : zE) {s : cT} {g : zH} (h : iH p s g N) {p1 : Int32} {p2 : Int64} {p4 : Nat} (hq_p4 : p.2 p4 = none) (hf : c_X0_payOff E N p1 p2 p4 s g = some (r, (s9, g9))) : f_X0_payOff E (p.1 1) p1 p2 p4 (cH p s g) = some (r, cH p s9 g9) ∧ iH p s9 g9 N := by
  unfold c_X0_payOff at hf
  unfold f_X0_payOff
  exact cs_X0_payOff_b0 E h hq_p4 hf
end
section
variable {p : cP} {N : iN} {r : Int32} {s9 : cT} {g9 : zH}
def c_X0_terminate_b19 (E : zE) (N : iN) (s0 : Nat) (s : cT) (g : zH) : Option (Int32 × (cT × zH)) :=
  some ((1 : Int32), (s, g))
theorem cs_X0_terminate_b19 (E : zE) {s : cT} {g : zH} (h : iH p s g N) {s0 : Nat} (hf : c_X0_terminate_b19 E N s0 s g = some (r, (s9, g9))) : f_X0_terminate_b19 E s0 (cH p s g) = some (r, cH p s9 g9) ∧ iH p s9 g9 N := by
  unfold c_X0_terminate_b19 at hf
  unfold f_X0_terminate_b19
  cases hf
  exact ⟨rfl, h⟩
def c_X0_terminate_b15 (E : zE) (N : iN) (s0 : Nat) (s1 : Int32) (s2 : Int64) (s : cT) (g : zH) : Option (Int32 × (cT × zH)) :=
  (sL g s0 s1 s2).bind fun g1536 =>
  some ((0 : Int32), (s, g1536))
theorem cs_X0_terminate_b15 (E : zE) {s : cT} {g : zH} (h : iH p s g N) {s0 : Nat} {s1 : Int32} {s2 : Int64} (hq_s0 : p.2 s0 = none) (hf : c_X0_terminate_b15 E N s0 s1 s2 s g = some (r, (s9, g9))) : f_X0_terminate_b15 E s0 s1 s2 (cH p s g) = some (r, cH p s9 g9) ∧ iH p s9 g9 N := by
  unfold c_X0_terminate_b15 at hf
  unfold f_X0_terminate_b15
  obtain ⟨g1536, e1535, hf⟩ := zbind hf
  refine kb1 ((r_sL hq_s0 _ _).trans (congrArg (Option.map (cH p _)) e1535)) ?_
  have h := iH_g h (gle_sL e1535)
  cases hf
  exact ⟨rfl, h⟩
def c_X0_terminate_b0 (E : zE) (N : iN) (p1 : Int32) (p2 : Nat) (s : cT) (g : zH) : Option (Int32 × (cT × zH)) :=
  bnd2 (c_X1_terminate E N p1 s g) fun x4 z1538 =>
  Sum.elim (fun x5 => (
    if x5 = 0 then (
      c_X0_terminate_b15 E N p2 (0 : Int32) (0 : Int64) z1538.1 z1538.2
    ) else (
      c_X0_terminate_b15 E N p2 (0 : Int32) (1 : Int64) z1538.1 z1538.2
    )
  )) (fun q6 => (
    if q6.1 = 20 then (
      c_X0_terminate_b19 E N q6.2 z1538.1 z1538.2
    ) else (
      none
    )
  )) x4
theorem cs_X0_terminate_b0 (E : zE) {s : cT} {g : zH} (h : iH p s g N) {p1 : Int32} {p2 : Nat} (hq_p2 : p.2 p2 = none) (hf : c_X0_terminate_b0 E N p1 p2 s g = some (r, (s9, g9))) : f_X0_terminate_b0 E (p.1 1) p1 p2 (cH p s g) = some (r, cH p s9 g9) ∧ iH p s9 g9 N := by
  unfold c_X0_terminate_b0 at hf
  unfold f_X0_terminate_b0
  refine kb1 (a_X_ck h) ?_
  obtain ⟨x4, z1538, e1537, hf⟩ := zbind2 hf
  obtain ⟨e1537, h⟩ := cs_X1_terminate E h e1537
  refine kbc e1537 ?_
  rcases x4 with x5 | q6
  · have hf := zinl hf
    refine kel0_l ?_
    by_cases c1540 : x5 = 0
    · have hf := zif_t c1540 hf
      refine kif_t c1540 ?_
      exact cs_X0_terminate_b15 E h hq_p2 hf
    · have hf := zif_f c1540 hf
      refine kif_f c1540 ?_
      exact cs_X0_terminate_b15 E h hq_p2 hf
  · have hf := zinr hf
    refine kel0_r ?_
    by_cases c1541 : q6.1 = 20
    · have hf := zif_t c1541 hf
      refine kif_t c1541 ?_
      exact cs_X0_terminate_b19 E h hf
    · have hf := zif_f c1541 hf
      refine kif_f c1541 ?_
      cases hf
def c_X0_terminate (E : zE) (N : iN) (p1 : Int32) (p2 : Nat) (s : cT) (g : zH) : Option (Int32 × (cT × zH)) :=
  c_X0_terminate_b0 E N p1 p2 s g
theorem cs_X0_terminate (E : zE) {s : cT} {g : zH} (h : iH p s g N) {p1 : Int32} {p2 : Nat} (hq_p2 : p.2 p2 = none) (hf : c_X0_terminate E N p1 p2 s g = some (r, (s9, g9))) : f_X0_terminate E (p.1 1) p1 p2 (cH p s g) = some (r, cH p s9 g9) ∧ iH p s9 g9 N := by
  unfold c_X0_terminate at hf
  unfold f_X0_terminate
  exact cs_X0_terminate_b0 E h hq_p2 hf
end
section
variable {p : cP} {N : iN} {r : Int32} {s9 : cT} {g9 : zH}
def c_X0_status_b12 (E : zE) (N : iN) (s0 : Nat) (s : cT) (g : zH) : Option (Int32 × (cT × zH)) :=
  some ((1 : Int32), (s, g))
theorem cs_X0_status_b12 (E : zE) {s : cT} {g : zH} (h : iH p s g N) {s0 : Nat} (hf : c_X0_status_b12 E N s0 s g = some (r, (s9, g9))) : f_X0_status_b12 E s0 (cH p s g) = some (r, cH p s9 g9) ∧ iH p s9 g9 N := by
  unfold c_X0_status_b12 at hf
  unfold f_X0_status_b12
  cases hf
  exact ⟨rfl, h⟩
def c_X0_status_b0 (E : zE) (N : iN) (p1 : Int32) (p2 : Nat) (s : cT) (g : zH) : Option (Int32 × (cT × zH)) :=
  bnd2 (c_X1_status E N p1 s g) fun x4 z1543 =>
  Sum.elim (fun x5 => (
    (sL z1543.2 p2 (0 : Int32) (x5.toInt64)).bind fun g1546 =>
    some ((0 : Int32), (z1543.1, g1546))
  )) (fun q6 => (
    if q6.1 = 20 then (
      c_X0_status_b12 E N q6.2 z1543.1 z1543.2
    ) else (
      none
    )
  )) x4
theorem cs_X0_status_b0 (E : zE) {s : cT} {g : zH} (h : iH p s g N) {p1 : Int32} {p2 : Nat} (hq_p2 : p.2 p2 = none) (hf : c_X0_status_b0 E N p1 p2 s g = some (r, (s9, g9))) : f_X0_status_b0 E (p.1 1) p1 p2 (cH p s g) = some (r, cH p s9 g9) ∧ iH p s9 g9 N := by
  unfold c_X0_status_b0 at hf
  unfold f_X0_status_b0
  refine kb1 (a_X_ck h) ?_
  obtain ⟨x4, z1543, e1542, hf⟩ := zbind2 hf
  obtain ⟨e1542, h⟩ := cs_X1_status E h e1542
  refine kbc e1542 ?_
  rcases x4 with x5 | q6
  · have hf := zinl hf
    refine kel0_l ?_
    obtain ⟨g1546, e1545, hf⟩ := zbind hf
    refine kb1 ((r_sL hq_p2 _ _).trans (congrArg (Option.map (cH p _)) e1545)) ?_
    have h := iH_g h (gle_sL e1545)
    cases hf
    exact ⟨rfl, h⟩
  · have hf := zinr hf
    refine kel0_r ?_
    by_cases c1547 : q6.1 = 20
    · have hf := zif_t c1547 hf
      refine kif_t c1547 ?_
      exact cs_X0_status_b12 E h hf
    · have hf := zif_f c1547 hf
      refine kif_f c1547 ?_
      cases hf
def c_X0_status (E : zE) (N : iN) (p1 : Int32) (p2 : Nat) (s : cT) (g : zH) : Option (Int32 × (cT × zH)) :=
  c_X0_status_b0 E N p1 p2 s g
theorem cs_X0_status (E : zE) {s : cT} {g : zH} (h : iH p s g N) {p1 : Int32} {p2 : Nat} (hq_p2 : p.2 p2 = none) (hf : c_X0_status E N p1 p2 s g = some (r, (s9, g9))) : f_X0_status E (p.1 1) p1 p2 (cH p s g) = some (r, cH p s9 g9) ∧ iH p s9 g9 N := by
  unfold c_X0_status at hf
  unfold f_X0_status
  exact cs_X0_status_b0 E h hq_p2 hf
end
section
variable {p : cP} {N : iN} {r : Int32} {s9 : cT} {g9 : zH}
def c_X0_contributions_b11 (E : zE) (N : iN) (s0 : Nat) (s : cT) (g : zH) : Option (Int32 × (cT × zH)) :=
  some ((1 : Int32), (s, g))
theorem cs_X0_contributions_b11 (E : zE) {s : cT} {g : zH} (h : iH p s g N) {s0 : Nat} (hf : c_X0_contributions_b11 E N s0 s g = some (r, (s9, g9))) : f_X0_contributions_b11 E s0 (cH p s g) = some (r, cH p s9 g9) ∧ iH p s9 g9 N := by
  unfold c_X0_contributions_b11 at hf
  unfold f_X0_contributions_b11
  cases hf
  exact ⟨rfl, h⟩
def c_X0_contributions_b0 (E : zE) (N : iN) (p1 : Int32) (p2 : Nat) (s : cT) (g : zH) : Option (Int32 × (cT × zH)) :=
  bnd2 (c_X1_contributions E N p1 s g) fun x4 z1549 =>
  Sum.elim (fun x5 => (
    (sL z1549.2 p2 (0 : Int32) x5).bind fun g1552 =>
    some ((0 : Int32), (z1549.1, g1552))
  )) (fun q6 => (
    if q6.1 = 20 then (
      c_X0_contributions_b11 E N q6.2 z1549.1 z1549.2
    ) else (
      none
    )
  )) x4
theorem cs_X0_contributions_b0 (E : zE) {s : cT} {g : zH} (h : iH p s g N) {p1 : Int32} {p2 : Nat} (hq_p2 : p.2 p2 = none) (hf : c_X0_contributions_b0 E N p1 p2 s g = some (r, (s9, g9))) : f_X0_contributions_b0 E (p.1 1) p1 p2 (cH p s g) = some (r, cH p s9 g9) ∧ iH p s9 g9 N := by
  unfold c_X0_contributions_b0 at hf
  unfold f_X0_contributions_b0
  refine kb1 (a_X_ck h) ?_
  obtain ⟨x4, z1549, e1548, hf⟩ := zbind2 hf
  obtain ⟨e1548, h⟩ := cs_X1_contributions E h e1548
  refine kbc e1548 ?_
  rcases x4 with x5 | q6
  · have hf := zinl hf
    refine kel0_l ?_
    obtain ⟨g1552, e1551, hf⟩ := zbind hf
    refine kb1 ((r_sL hq_p2 _ _).trans (congrArg (Option.map (cH p _)) e1551)) ?_
    have h := iH_g h (gle_sL e1551)
    cases hf
    exact ⟨rfl, h⟩
  · have hf := zinr hf
    refine kel0_r ?_
    by_cases c1553 : q6.1 = 20
    · have hf := zif_t c1553 hf
      refine kif_t c1553 ?_
      exact cs_X0_contributions_b11 E h hf
    · have hf := zif_f c1553 hf
      refine kif_f c1553 ?_
      cases hf
def c_X0_contributions (E : zE) (N : iN) (p1 : Int32) (p2 : Nat) (s : cT) (g : zH) : Option (Int32 × (cT × zH)) :=
  c_X0_contributions_b0 E N p1 p2 s g
theorem cs_X0_contributions (E : zE) {s : cT} {g : zH} (h : iH p s g N) {p1 : Int32} {p2 : Nat} (hq_p2 : p.2 p2 = none) (hf : c_X0_contributions E N p1 p2 s g = some (r, (s9, g9))) : f_X0_contributions E (p.1 1) p1 p2 (cH p s g) = some (r, cH p s9 g9) ∧ iH p s9 g9 N := by
  unfold c_X0_contributions at hf
  unfold f_X0_contributions
  exact cs_X0_contributions_b0 E h hq_p2 hf
end
section
variable {p : cP} {N : iN} {r : Int32} {s9 : cT} {g9 : zH}
def c_X0_spent_b11 (E : zE) (N : iN) (s0 : Nat) (s : cT) (g : zH) : Option (Int32 × (cT × zH)) :=
  some ((1 : Int32), (s, g))
theorem cs_X0_spent_b11 (E : zE) {s : cT} {g : zH} (h : iH p s g N) {s0 : Nat} (hf : c_X0_spent_b11 E N s0 s g = some (r, (s9, g9))) : f_X0_spent_b11 E s0 (cH p s g) = some (r, cH p s9 g9) ∧ iH p s9 g9 N := by
  unfold c_X0_spent_b11 at hf
  unfold f_X0_spent_b11
  cases hf
  exact ⟨rfl, h⟩
def c_X0_spent_b0 (E : zE) (N : iN) (p1 : Int32) (p2 : Nat) (s : cT) (g : zH) : Option (Int32 × (cT × zH)) :=
  bnd2 (c_X1_spent E N p1 s g) fun x4 z1555 =>
  Sum.elim (fun x5 => (
    (sL z1555.2 p2 (0 : Int32) x5).bind fun g1558 =>
    some ((0 : Int32), (z1555.1, g1558))
  )) (fun q6 => (
    if q6.1 = 21 then (
      c_X0_spent_b11 E N q6.2 z1555.1 z1555.2
    ) else (
      none
    )
  )) x4
theorem cs_X0_spent_b0 (E : zE) {s : cT} {g : zH} (h : iH p s g N) {p1 : Int32} {p2 : Nat} (hq_p2 : p.2 p2 = none) (hf : c_X0_spent_b0 E N p1 p2 s g = some (r, (s9, g9))) : f_X0_spent_b0 E (p.1 1) p1 p2 (cH p s g) = some (r, cH p s9 g9) ∧ iH p s9 g9 N := by
  unfold c_X0_spent_b0 at hf
  unfold f_X0_spent_b0
  refine kb1 (a_X_ck h) ?_
  obtain ⟨x4, z1555, e1554, hf⟩ := zbind2 hf
  obtain ⟨e1554, h⟩ := cs_X1_spent E h e1554
  refine kbc e1554 ?_
  rcases x4 with x5 | q6
  · have hf := zinl hf
    refine kel0_l ?_
    obtain ⟨g1558, e1557, hf⟩ := zbind hf
    refine kb1 ((r_sL hq_p2 _ _).trans (congrArg (Option.map (cH p _)) e1557)) ?_
    have h := iH_g h (gle_sL e1557)
    cases hf
    exact ⟨rfl, h⟩
  · have hf := zinr hf
    refine kel0_r ?_
    by_cases c1559 : q6.1 = 21
    · have hf := zif_t c1559 hf
      refine kif_t c1559 ?_
      exact cs_X0_spent_b11 E h hf
    · have hf := zif_f c1559 hf
      refine kif_f c1559 ?_
      cases hf
def c_X0_spent (E : zE) (N : iN) (p1 : Int32) (p2 : Nat) (s : cT) (g : zH) : Option (Int32 × (cT × zH)) :=
  c_X0_spent_b0 E N p1 p2 s g
theorem cs_X0_spent (E : zE) {s : cT} {g : zH} (h : iH p s g N) {p1 : Int32} {p2 : Nat} (hq_p2 : p.2 p2 = none) (hf : c_X0_spent E N p1 p2 s g = some (r, (s9, g9))) : f_X0_spent E (p.1 1) p1 p2 (cH p s g) = some (r, cH p s9 g9) ∧ iH p s9 g9 N := by
  unfold c_X0_spent at hf
  unfold f_X0_spent
  exact cs_X0_spent_b0 E h hq_p2 hf
end
section
variable {p : cP} {N : iN} {r : Int32} {s9 : cT} {g9 : zH}
def c_X0_campaign_b19 (E : zE) (N : iN) (s0 : Nat) (s : cT) (g : zH) : Option (Int32 × (cT × zH)) :=
  some ((1 : Int32), (s, g))
theorem cs_X0_campaign_b19 (E : zE) {s : cT} {g : zH} (h : iH p s g N) {s0 : Nat} (hf : c_X0_campaign_b19 E N s0 s g = some (r, (s9, g9))) : f_X0_campaign_b19 E s0 (cH p s g) = some (r, cH p s9 g9) ∧ iH p s9 g9 N := by
  unfold c_X0_campaign_b19 at hf
  unfold f_X0_campaign_b19
  cases hf
  exact ⟨rfl, h⟩
def c_X0_campaign_b15 (E : zE) (N : iN) (s0 : Nat) (s1 : Int32) (s2 : Int64) (s : cT) (g : zH) : Option (Int32 × (cT × zH)) :=
  (sL g s0 s1 s2).bind fun g1561 =>
  some ((0 : Int32), (s, g1561))
theorem cs_X0_campaign_b15 (E : zE) {s : cT} {g : zH} (h : iH p s g N) {s0 : Nat} {s1 : Int32} {s2 : Int64} (hq_s0 : p.2 s0 = none) (hf : c_X0_campaign_b15 E N s0 s1 s2 s g = some (r, (s9, g9))) : f_X0_campaign_b15 E s0 s1 s2 (cH p s g) = some (r, cH p s9 g9) ∧ iH p s9 g9 N := by
  unfold c_X0_campaign_b15 at hf
  unfold f_X0_campaign_b15
  obtain ⟨g1561, e1560, hf⟩ := zbind hf
  refine kb1 ((r_sL hq_s0 _ _).trans (congrArg (Option.map (cH p _)) e1560)) ?_
  have h := iH_g h (gle_sL e1560)
  cases hf
  exact ⟨rfl, h⟩
def c_X0_campaign_b0 (E : zE) (N : iN) (p1 : Int64) (p3 : Nat) (s : cT) (g : zH) : Option (Int32 × (cT × zH)) :=
  bnd2 (c_X1_campaign E N p1 s g) fun x4 z1563 =>
  Sum.elim (fun x5 => (
    if x5 = 0 then (
      c_X0_campaign_b15 E N p3 (0 : Int32) (0 : Int64) z1563.1 z1563.2
    ) else (
      c_X0_campaign_b15 E N p3 (0 : Int32) (1 : Int64) z1563.1 z1563.2
    )
  )) (fun q6 => (
    if q6.1 = 21 then (
      c_X0_campaign_b19 E N q6.2 z1563.1 z1563.2
    ) else (
      none
    )
  )) x4
theorem cs_X0_campaign_b0 (E : zE) {s : cT} {g : zH} (h : iH p s g N) {p1 : Int64} {p3 : Nat} (hq_p3 : p.2 p3 = none) (hf : c_X0_campaign_b0 E N p1 p3 s g = some (r, (s9, g9))) : f_X0_campaign_b0 E (p.1 1) p1 p3 (cH p s g) = some (r, cH p s9 g9) ∧ iH p s9 g9 N := by
  unfold c_X0_campaign_b0 at hf
  unfold f_X0_campaign_b0
  refine kb1 (a_X_ck h) ?_
  obtain ⟨x4, z1563, e1562, hf⟩ := zbind2 hf
  obtain ⟨e1562, h⟩ := cs_X1_campaign E h e1562
  refine kbc e1562 ?_
  rcases x4 with x5 | q6
  · have hf := zinl hf
    refine kel0_l ?_
    by_cases c1565 : x5 = 0
    · have hf := zif_t c1565 hf
      refine kif_t c1565 ?_
      exact cs_X0_campaign_b15 E h hq_p3 hf
    · have hf := zif_f c1565 hf
      refine kif_f c1565 ?_
      exact cs_X0_campaign_b15 E h hq_p3 hf
  · have hf := zinr hf
    refine kel0_r ?_
    by_cases c1566 : q6.1 = 21
    · have hf := zif_t c1566 hf
      refine kif_t c1566 ?_
      exact cs_X0_campaign_b19 E h hf
    · have hf := zif_f c1566 hf
      refine kif_f c1566 ?_
      cases hf
def c_X0_campaign (E : zE) (N : iN) (p1 : Int64) (p3 : Nat) (s : cT) (g : zH) : Option (Int32 × (cT × zH)) :=
  c_X0_campaign_b0 E N p1 p3 s g
theorem cs_X0_campaign (E : zE) {s : cT} {g : zH} (h : iH p s g N) {p1 : Int64} {p3 : Nat} (hq_p3 : p.2 p3 = none) (hf : c_X0_campaign E N p1 p3 s g = some (r, (s9, g9))) : f_X0_campaign E (p.1 1) p1 p3 (cH p s g) = some (r, cH p s9 g9) ∧ iH p s9 g9 N := by
  unfold c_X0_campaign at hf
  unfold f_X0_campaign
  exact cs_X0_campaign_b0 E h hq_p3 hf
end
section
variable {p : cP} {N : iN} {r : Int32} {s9 : cT} {g9 : zH}
def c_X0_grant_b21 (E : zE) (N : iN) (s0 : Nat) (s : cT) (g : zH) : Option (Int32 × (cT × zH)) :=
  some ((1 : Int32), (s, g))
theorem cs_X0_grant_b21 (E : zE) {s : cT} {g : zH} (h : iH p s g N) {s0 : Nat} (hf : c_X0_grant_b21 E N s0 s g = some (r, (s9, g9))) : f_X0_grant_b21 E s0 (cH p s g) = some (r, cH p s9 g9) ∧ iH p s9 g9 N := by
  unfold c_X0_grant_b21 at hf
  unfold f_X0_grant_b21
  cases hf
  exact ⟨rfl, h⟩
def c_X0_grant_b25 (E : zE) (N : iN) (s0 : Nat) (s : cT) (g : zH) : Option (Int32 × (cT × zH)) :=
  some ((2 : Int32), (s, g))
theorem cs_X0_grant_b25 (E : zE) {s : cT} {g : zH} (h : iH p s g N) {s0 : Nat} (hf : c_X0_grant_b25 E N s0 s g = some (r, (s9, g9))) : f_X0_grant_b25 E s0 (cH p s g) = some (r, cH p s9 g9) ∧ iH p s9 g9 N := by
  unfold c_X0_grant_b25 at hf
  unfold f_X0_grant_b25
  cases hf
  exact ⟨rfl, h⟩
def c_X0_grant_b17 (E : zE) (N : iN) (s0 : Nat) (s1 : Int32) (s2 : Int64) (s : cT) (g : zH) : Option (Int32 × (cT × zH)) :=
  (sL g s0 s1 s2).bind fun g1568 =>
  some ((0 : Int32), (s, g1568))
theorem cs_X0_grant_b17 (E : zE) {s : cT} {g : zH} (h : iH p s g N) {s0 : Nat} {s1 : Int32} {s2 : Int64} (hq_s0 : p.2 s0 = none) (hf : c_X0_grant_b17 E N s0 s1 s2 s g = some (r, (s9, g9))) : f_X0_grant_b17 E s0 s1 s2 (cH p s g) = some (r, cH p s9 g9) ∧ iH p s9 g9 N := by
  unfold c_X0_grant_b17 at hf
  unfold f_X0_grant_b17
  obtain ⟨g1568, e1567, hf⟩ := zbind hf
  refine kb1 ((r_sL hq_s0 _ _).trans (congrArg (Option.map (cH p _)) e1567)) ?_
  have h := iH_g h (gle_sL e1567)
  cases hf
  exact ⟨rfl, h⟩
def c_X0_grant_b0 (E : zE) (N : iN) (p1 : Int32) (p2 : Int64) (p4 : Nat) (s : cT) (g : zH) : Option (Int32 × (cT × zH)) :=
  bnd2 (c_X1_grant E N p1 p2 s g) fun x4 z1570 =>
  Sum.elim (fun x5 => (
    if x5 = 0 then (
      c_X0_grant_b17 E N p4 (0 : Int32) (0 : Int64) z1570.1 z1570.2
    ) else (
      c_X0_grant_b17 E N p4 (0 : Int32) (1 : Int64) z1570.1 z1570.2
    )
  )) (fun q6 => (
    if q6.1 = 20 then (
      c_X0_grant_b21 E N q6.2 z1570.1 z1570.2
    ) else (
      if q6.1 = 21 then (
        c_X0_grant_b25 E N q6.2 z1570.1 z1570.2
      ) else (
        none
      )
    )
  )) x4
theorem cs_X0_grant_b0 (E : zE) {s : cT} {g : zH} (h : iH p s g N) {p1 : Int32} {p2 : Int64} {p4 : Nat} (hq_p4 : p.2 p4 = none) (hf : c_X0_grant_b0 E N p1 p2 p4 s g = some (r, (s9, g9))) : f_X0_grant_b0 E (p.1 1) p1 p2 p4 (cH p s g) = some (r, cH p s9 g9) ∧ iH p s9 g9 N := by
  unfold c_X0_grant_b0 at hf
  unfold f_X0_grant_b0
  refine kb1 (a_X_ck h) ?_
  obtain ⟨x4, z1570, e1569, hf⟩ := zbind2 hf
  obtain ⟨e1569, h⟩ := cs_X1_grant E h e1569
  refine kbc e1569 ?_
  rcases x4 with x5 | q6
  · have hf := zinl hf
    refine kel0_l ?_
    by_cases c1572 : x5 = 0
    · have hf := zif_t c1572 hf
      refine kif_t c1572 ?_
      exact cs_X0_grant_b17 E h hq_p4 hf
    · have hf := zif_f c1572 hf
      refine kif_f c1572 ?_
      exact cs_X0_grant_b17 E h hq_p4 hf
  · have hf := zinr hf
    refine kel0_r ?_
    by_cases c1573 : q6.1 = 20
    · have hf := zif_t c1573 hf
      refine kif_t c1573 ?_
      exact cs_X0_grant_b21 E h hf
    · have hf := zif_f c1573 hf
      refine kif_f c1573 ?_
      by_cases c1574 : q6.1 = 21
      · have hf := zif_t c1574 hf
        refine kif_t c1574 ?_
        exact cs_X0_grant_b25 E h hf
      · have hf := zif_f c1574 hf
        refine kif_f c1574 ?_
        cases hf
def c_X0_grant (E : zE) (N : iN) (p1 : Int32) (p2 : Int64) (p4 : Nat) (s : cT) (g : zH) : Option (Int32 × (cT × zH)) :=
  c_X0_grant_b0 E N p1 p2 p4 s g
theorem cs_X0_grant (E : zE) {s : cT} {g : zH} (h : iH p s g N) {p1 : Int32} {p2 : Int64} {p4 : Nat} (hq_p4 : p.2 p4 = none) (hf : c_X0_grant E N p1 p2 p4 s g = some (r, (s9, g9))) : f_X0_grant E (p.1 1) p1 p2 p4 (cH p s g) = some (r, cH p s9 g9) ∧ iH p s9 g9 N := by
  unfold c_X0_grant at hf
  unfold f_X0_grant
  exact cs_X0_grant_b0 E h hq_p4 hf
end
section
variable {p : cP} {N : iN} {r : Int32} {s9 : cT} {g9 : zH}
def c_X0_allowance_b11 (E : zE) (N : iN) (s0 : Nat) (s : cT) (g : zH) : Option (Int32 × (cT × zH)) :=
  some ((1 : Int32), (s, g))
theorem cs_X0_allowance_b11 (E : zE) {s : cT} {g : zH} (h : iH p s g N) {s0 : Nat} (hf : c_X0_allowance_b11 E N s0 s g = some (r, (s9, g9))) : f_X0_allowance_b11 E s0 (cH p s g) = some (r, cH p s9 g9) ∧ iH p s9 g9 N := by
  unfold c_X0_allowance_b11 at hf
  unfold f_X0_allowance_b11
  cases hf
  exact ⟨rfl, h⟩
def c_X0_allowance_b0 (E : zE) (N : iN) (p1 : Int32) (p2 : Nat) (s : cT) (g : zH) : Option (Int32 × (cT × zH)) :=
  bnd2 (c_X1_allowance E N p1 s g) fun x4 z1576 =>
  Sum.elim (fun x5 => (
    (sL z1576.2 p2 (0 : Int32) x5).bind fun g1579 =>
    some ((0 : Int32), (z1576.1, g1579))
  )) (fun q6 => (
    if q6.1 = 20 then (
      c_X0_allowance_b11 E N q6.2 z1576.1 z1576.2
    ) else (
      none
    )
  )) x4
theorem cs_X0_allowance_b0 (E : zE) {s : cT} {g : zH} (h : iH p s g N) {p1 : Int32} {p2 : Nat} (hq_p2 : p.2 p2 = none) (hf : c_X0_allowance_b0 E N p1 p2 s g = some (r, (s9, g9))) : f_X0_allowance_b0 E (p.1 1) p1 p2 (cH p s g) = some (r, cH p s9 g9) ∧ iH p s9 g9 N := by
  unfold c_X0_allowance_b0 at hf
  unfold f_X0_allowance_b0
  refine kb1 (a_X_ck h) ?_
  obtain ⟨x4, z1576, e1575, hf⟩ := zbind2 hf
  obtain ⟨e1575, h⟩ := cs_X1_allowance E h e1575
  refine kbc e1575 ?_
  rcases x4 with x5 | q6
  · have hf := zinl hf
    refine kel0_l ?_
    obtain ⟨g1579, e1578, hf⟩ := zbind hf
    refine kb1 ((r_sL hq_p2 _ _).trans (congrArg (Option.map (cH p _)) e1578)) ?_
    have h := iH_g h (gle_sL e1578)
    cases hf
    exact ⟨rfl, h⟩
  · have hf := zinr hf
    refine kel0_r ?_
    by_cases c1580 : q6.1 = 20
    · have hf := zif_t c1580 hf
      refine kif_t c1580 ?_
      exact cs_X0_allowance_b11 E h hf
    · have hf := zif_f c1580 hf
      refine kif_f c1580 ?_
      cases hf
def c_X0_allowance (E : zE) (N : iN) (p1 : Int32) (p2 : Nat) (s : cT) (g : zH) : Option (Int32 × (cT × zH)) :=
  c_X0_allowance_b0 E N p1 p2 s g
theorem cs_X0_allowance (E : zE) {s : cT} {g : zH} (h : iH p s g N) {p1 : Int32} {p2 : Nat} (hq_p2 : p.2 p2 = none) (hf : c_X0_allowance E N p1 p2 s g = some (r, (s9, g9))) : f_X0_allowance E (p.1 1) p1 p2 (cH p s g) = some (r, cH p s9 g9) ∧ iH p s9 g9 N := by
  unfold c_X0_allowance at hf
  unfold f_X0_allowance
  exact cs_X0_allowance_b0 E h hq_p2 hf
end
section
variable {p : cP} {N : iN} {r : Int32} {s9 : cT} {g9 : zH}
def c_X0_nationalShare_b11 (E : zE) (N : iN) (s0 : Nat) (s : cT) (g : zH) : Option (Int32 × (cT × zH)) :=
  some ((1 : Int32), (s, g))
theorem cs_X0_nationalShare_b11 (E : zE) {s : cT} {g : zH} (h : iH p s g N) {s0 : Nat} (hf : c_X0_nationalShare_b11 E N s0 s g = some (r, (s9, g9))) : f_X0_nationalShare_b11 E s0 (cH p s g) = some (r, cH p s9 g9) ∧ iH p s9 g9 N := by
  unfold c_X0_nationalShare_b11 at hf
  unfold f_X0_nationalShare_b11
  cases hf
  exact ⟨rfl, h⟩
def c_X0_nationalShare_b0 (E : zE) (N : iN) (p1 : Int32) (p2 : Nat) (s : cT) (g : zH) : Option (Int32 × (cT × zH)) :=
  bnd2 (c_X1_nationalShare E N p1 s g) fun x4 z1582 =>
  Sum.elim (fun x5 => (
    (sL z1582.2 p2 (0 : Int32) x5).bind fun g1585 =>
    some ((0 : Int32), (z1582.1, g1585))
  )) (fun q6 => (
    if q6.1 = 20 then (
      c_X0_nationalShare_b11 E N q6.2 z1582.1 z1582.2
    ) else (
      none
    )
  )) x4
theorem cs_X0_nationalShare_b0 (E : zE) {s : cT} {g : zH} (h : iH p s g N) {p1 : Int32} {p2 : Nat} (hq_p2 : p.2 p2 = none) (hf : c_X0_nationalShare_b0 E N p1 p2 s g = some (r, (s9, g9))) : f_X0_nationalShare_b0 E (p.1 1) p1 p2 (cH p s g) = some (r, cH p s9 g9) ∧ iH p s9 g9 N := by
  unfold c_X0_nationalShare_b0 at hf
  unfold f_X0_nationalShare_b0
  refine kb1 (a_X_ck h) ?_
  obtain ⟨x4, z1582, e1581, hf⟩ := zbind2 hf
  obtain ⟨e1581, h⟩ := cs_X1_nationalShare E h e1581
  refine kbc e1581 ?_
  rcases x4 with x5 | q6
  · have hf := zinl hf
    refine kel0_l ?_
    obtain ⟨g1585, e1584, hf⟩ := zbind hf
    refine kb1 ((r_sL hq_p2 _ _).trans (congrArg (Option.map (cH p _)) e1584)) ?_
    have h := iH_g h (gle_sL e1584)
    cases hf
    exact ⟨rfl, h⟩
  · have hf := zinr hf
    refine kel0_r ?_
    by_cases c1586 : q6.1 = 20
    · have hf := zif_t c1586 hf
      refine kif_t c1586 ?_
      exact cs_X0_nationalShare_b11 E h hf
    · have hf := zif_f c1586 hf
      refine kif_f c1586 ?_
      cases hf
def c_X0_nationalShare (E : zE) (N : iN) (p1 : Int32) (p2 : Nat) (s : cT) (g : zH) : Option (Int32 × (cT × zH)) :=
  c_X0_nationalShare_b0 E N p1 p2 s g
theorem cs_X0_nationalShare (E : zE) {s : cT} {g : zH} (h : iH p s g N) {p1 : Int32} {p2 : Nat} (hq_p2 : p.2 p2 = none) (hf : c_X0_nationalShare E N p1 p2 s g = some (r, (s9, g9))) : f_X0_nationalShare E (p.1 1) p1 p2 (cH p s g) = some (r, cH p s9 g9) ∧ iH p s9 g9 N := by
  unfold c_X0_nationalShare at hf
  unfold f_X0_nationalShare
  exact cs_X0_nationalShare_b0 E h hq_p2 hf
end
section
variable {p : cP} {N : iN} {r : Int32} {s9 : cT} {g9 : zH}
def c_X0_requestTransfer_b22 (E : zE) (N : iN) (s0 : Nat) (s : cT) (g : zH) : Option (Int32 × (cT × zH)) :=
  some ((1 : Int32), (s, g))
theorem cs_X0_requestTransfer_b22 (E : zE) {s : cT} {g : zH} (h : iH p s g N) {s0 : Nat} (hf : c_X0_requestTransfer_b22 E N s0 s g = some (r, (s9, g9))) : f_X0_requestTransfer_b22 E s0 (cH p s g) = some (r, cH p s9 g9) ∧ iH p s9 g9 N := by
  unfold c_X0_requestTransfer_b22 at hf
  unfold f_X0_requestTransfer_b22
  cases hf
  exact ⟨rfl, h⟩
def c_X0_requestTransfer_b26 (E : zE) (N : iN) (s0 : Nat) (s : cT) (g : zH) : Option (Int32 × (cT × zH)) :=
  some ((2 : Int32), (s, g))
theorem cs_X0_requestTransfer_b26 (E : zE) {s : cT} {g : zH} (h : iH p s g N) {s0 : Nat} (hf : c_X0_requestTransfer_b26 E N s0 s g = some (r, (s9, g9))) : f_X0_requestTransfer_b26 E s0 (cH p s g) = some (r, cH p s9 g9) ∧ iH p s9 g9 N := by
  unfold c_X0_requestTransfer_b26 at hf
  unfold f_X0_requestTransfer_b26
  cases hf
  exact ⟨rfl, h⟩
def c_X0_requestTransfer_b18 (E : zE) (N : iN) (s0 : Nat) (s1 : Int32) (s2 : Int64) (s : cT) (g : zH) : Option (Int32 × (cT × zH)) :=
  (sL g s0 s1 s2).bind fun g1588 =>
  some ((0 : Int32), (s, g1588))
theorem cs_X0_requestTransfer_b18 (E : zE) {s : cT} {g : zH} (h : iH p s g N) {s0 : Nat} {s1 : Int32} {s2 : Int64} (hq_s0 : p.2 s0 = none) (hf : c_X0_requestTransfer_b18 E N s0 s1 s2 s g = some (r, (s9, g9))) : f_X0_requestTransfer_b18 E s0 s1 s2 (cH p s g) = some (r, cH p s9 g9) ∧ iH p s9 g9 N := by
  unfold c_X0_requestTransfer_b18 at hf
  unfold f_X0_requestTransfer_b18
  obtain ⟨g1588, e1587, hf⟩ := zbind hf
  refine kb1 ((r_sL hq_s0 _ _).trans (congrArg (Option.map (cH p _)) e1587)) ?_
  have h := iH_g h (gle_sL e1587)
  cases hf
  exact ⟨rfl, h⟩
def c_X0_requestTransfer_b0 (E : zE) (N : iN) (p1 : Int32) (p2 : Int32) (p3 : Int64) (p5 : Nat) (s : cT) (g : zH) : Option (Int32 × (cT × zH)) :=
  bnd2 (c_X1_requestTransfer E N p1 p2 p3 s g) fun x4 z1590 =>
  Sum.elim (fun x5 => (
    if x5 = 0 then (
      c_X0_requestTransfer_b18 E N p5 (0 : Int32) (0 : Int64) z1590.1 z1590.2
    ) else (
      c_X0_requestTransfer_b18 E N p5 (0 : Int32) (1 : Int64) z1590.1 z1590.2
    )
  )) (fun q6 => (
    if q6.1 = 20 then (
      c_X0_requestTransfer_b22 E N q6.2 z1590.1 z1590.2
    ) else (
      if q6.1 = 21 then (
        c_X0_requestTransfer_b26 E N q6.2 z1590.1 z1590.2
      ) else (
        none
      )
    )
  )) x4
theorem cs_X0_requestTransfer_b0 (E : zE) {s : cT} {g : zH} (h : iH p s g N) {p1 : Int32} {p2 : Int32} {p3 : Int64} {p5 : Nat} (hq_p5 : p.2 p5 = none) (hf : c_X0_requestTransfer_b0 E N p1 p2 p3 p5 s g = some (r, (s9, g9))) : f_X0_requestTransfer_b0 E (p.1 1) p1 p2 p3 p5 (cH p s g) = some (r, cH p s9 g9) ∧ iH p s9 g9 N := by
  unfold c_X0_requestTransfer_b0 at hf
  unfold f_X0_requestTransfer_b0
  refine kb1 (a_X_ck h) ?_
  obtain ⟨x4, z1590, e1589, hf⟩ := zbind2 hf
  obtain ⟨e1589, h⟩ := cs_X1_requestTransfer E h e1589
  refine kbc e1589 ?_
  rcases x4 with x5 | q6
  · have hf := zinl hf
    refine kel0_l ?_
    by_cases c1592 : x5 = 0
    · have hf := zif_t c1592 hf
      refine kif_t c1592 ?_
      exact cs_X0_requestTransfer_b18 E h hq_p5 hf
    · have hf := zif_f c1592 hf
      refine kif_f c1592 ?_
      exact cs_X0_requestTransfer_b18 E h hq_p5 hf
  · have hf := zinr hf
    refine kel0_r ?_
    by_cases c1593 : q6.1 = 20
    · have hf := zif_t c1593 hf
      refine kif_t c1593 ?_
      exact cs_X0_requestTransfer_b22 E h hf
    · have hf := zif_f c1593 hf
      refine kif_f c1593 ?_
      by_cases c1594 : q6.1 = 21
      · have hf := zif_t c1594 hf
        refine kif_t c1594 ?_
        exact cs_X0_requestTransfer_b26 E h hf
      · have hf := zif_f c1594 hf
        refine kif_f c1594 ?_
        cases hf
def c_X0_requestTransfer (E : zE) (N : iN) (p1 : Int32) (p2 : Int32) (p3 : Int64) (p5 : Nat) (s : cT) (g : zH) : Option (Int32 × (cT × zH)) :=
  c_X0_requestTransfer_b0 E N p1 p2 p3 p5 s g
theorem cs_X0_requestTransfer (E : zE) {s : cT} {g : zH} (h : iH p s g N) {p1 : Int32} {p2 : Int32} {p3 : Int64} {p5 : Nat} (hq_p5 : p.2 p5 = none) (hf : c_X0_requestTransfer E N p1 p2 p3 p5 s g = some (r, (s9, g9))) : f_X0_requestTransfer E (p.1 1) p1 p2 p3 p5 (cH p s g) = some (r, cH p s9 g9) ∧ iH p s9 g9 N := by
  unfold c_X0_requestTransfer at hf
  unfold f_X0_requestTransfer
  exact cs_X0_requestTransfer_b0 E h hq_p5 hf
end
section
variable {p : cP} {N : iN} {r : Int32} {s9 : cT} {g9 : zH}
def c_X0_vote_b15 (E : zE) (N : iN) (s0 : Nat) (s : cT) (g : zH) : Option (Int32 × (cT × zH)) :=
  some ((1 : Int32), (s, g))
theorem cs_X0_vote_b15 (E : zE) {s : cT} {g : zH} (h : iH p s g N) {s0 : Nat} (hf : c_X0_vote_b15 E N s0 s g = some (r, (s9, g9))) : f_X0_vote_b15 E s0 (cH p s g) = some (r, cH p s9 g9) ∧ iH p s9 g9 N := by
  unfold c_X0_vote_b15 at hf
  unfold f_X0_vote_b15
  cases hf
  exact ⟨rfl, h⟩
def c_X0_vote_b19 (E : zE) (N : iN) (s0 : Nat) (s : cT) (g : zH) : Option (Int32 × (cT × zH)) :=
  some ((2 : Int32), (s, g))
theorem cs_X0_vote_b19 (E : zE) {s : cT} {g : zH} (h : iH p s g N) {s0 : Nat} (hf : c_X0_vote_b19 E N s0 s g = some (r, (s9, g9))) : f_X0_vote_b19 E s0 (cH p s g) = some (r, cH p s9 g9) ∧ iH p s9 g9 N := by
  unfold c_X0_vote_b19 at hf
  unfold f_X0_vote_b19
  cases hf
  exact ⟨rfl, h⟩
def c_X0_vote_b0 (E : zE) (N : iN) (p1 : Int32) (p2 : Int32) (p3 : Int32) (p4 : Nat) (s : cT) (g : zH) : Option (Int32 × (cT × zH)) :=
  bnd2 (c_X1_vote E N p1 p2 p3 s g) fun x4 z1596 =>
  Sum.elim (fun x5 => (
    (sL z1596.2 p4 (0 : Int32) (x5.toInt64)).bind fun g1599 =>
    some ((0 : Int32), (z1596.1, g1599))
  )) (fun q6 => (
    if q6.1 = 20 then (
      c_X0_vote_b15 E N q6.2 z1596.1 z1596.2
    ) else (
      if q6.1 = 21 then (
        c_X0_vote_b19 E N q6.2 z1596.1 z1596.2
      ) else (
        none
      )
    )
  )) x4
theorem cs_X0_vote_b0 (E : zE) {s : cT} {g : zH} (h : iH p s g N) {p1 : Int32} {p2 : Int32} {p3 : Int32} {p4 : Nat} (hq_p4 : p.2 p4 = none) (hf : c_X0_vote_b0 E N p1 p2 p3 p4 s g = some (r, (s9, g9))) : f_X0_vote_b0 E (p.1 1) p1 p2 p3 p4 (cH p s g) = some (r, cH p s9 g9) ∧ iH p s9 g9 N := by
  unfold c_X0_vote_b0 at hf
  unfold f_X0_vote_b0
  refine kb1 (a_X_ck h) ?_
  obtain ⟨x4, z1596, e1595, hf⟩ := zbind2 hf
  obtain ⟨e1595, h⟩ := cs_X1_vote E h e1595
  refine kbc e1595 ?_
  rcases x4 with x5 | q6
  · have hf := zinl hf
    refine kel0_l ?_
    obtain ⟨g1599, e1598, hf⟩ := zbind hf
    refine kb1 ((r_sL hq_p4 _ _).trans (congrArg (Option.map (cH p _)) e1598)) ?_
    have h := iH_g h (gle_sL e1598)
    cases hf
    exact ⟨rfl, h⟩
  · have hf := zinr hf
    refine kel0_r ?_
    by_cases c1600 : q6.1 = 20
    · have hf := zif_t c1600 hf
      refine kif_t c1600 ?_
      exact cs_X0_vote_b15 E h hf
    · have hf := zif_f c1600 hf
      refine kif_f c1600 ?_
      by_cases c1601 : q6.1 = 21
      · have hf := zif_t c1601 hf
        refine kif_t c1601 ?_
        exact cs_X0_vote_b19 E h hf
      · have hf := zif_f c1601 hf
        refine kif_f c1601 ?_
        cases hf
def c_X0_vote (E : zE) (N : iN) (p1 : Int32) (p2 : Int32) (p3 : Int32) (p4 : Nat) (s : cT) (g : zH) : Option (Int32 × (cT × zH)) :=
  c_X0_vote_b0 E N p1 p2 p3 p4 s g
theorem cs_X0_vote (E : zE) {s : cT} {g : zH} (h : iH p s g N) {p1 : Int32} {p2 : Int32} {p3 : Int32} {p4 : Nat} (hq_p4 : p.2 p4 = none) (hf : c_X0_vote E N p1 p2 p3 p4 s g = some (r, (s9, g9))) : f_X0_vote E (p.1 1) p1 p2 p3 p4 (cH p s g) = some (r, cH p s9 g9) ∧ iH p s9 g9 N := by
  unfold c_X0_vote at hf
  unfold f_X0_vote
  exact cs_X0_vote_b0 E h hq_p4 hf
end
section
variable {p : cP} {N : iN} {r : Int32} {s9 : cT} {g9 : zH}
def c_X0_exercise_b19 (E : zE) (N : iN) (s0 : Nat) (s : cT) (g : zH) : Option (Int32 × (cT × zH)) :=
  some ((1 : Int32), (s, g))
theorem cs_X0_exercise_b19 (E : zE) {s : cT} {g : zH} (h : iH p s g N) {s0 : Nat} (hf : c_X0_exercise_b19 E N s0 s g = some (r, (s9, g9))) : f_X0_exercise_b19 E s0 (cH p s g) = some (r, cH p s9 g9) ∧ iH p s9 g9 N := by
  unfold c_X0_exercise_b19 at hf
  unfold f_X0_exercise_b19
  cases hf
  exact ⟨rfl, h⟩
def c_X0_exercise_b15 (E : zE) (N : iN) (s0 : Nat) (s1 : Int32) (s2 : Int64) (s : cT) (g : zH) : Option (Int32 × (cT × zH)) :=
  (sL g s0 s1 s2).bind fun g1603 =>
  some ((0 : Int32), (s, g1603))
theorem cs_X0_exercise_b15 (E : zE) {s : cT} {g : zH} (h : iH p s g N) {s0 : Nat} {s1 : Int32} {s2 : Int64} (hq_s0 : p.2 s0 = none) (hf : c_X0_exercise_b15 E N s0 s1 s2 s g = some (r, (s9, g9))) : f_X0_exercise_b15 E s0 s1 s2 (cH p s g) = some (r, cH p s9 g9) ∧ iH p s9 g9 N := by
  unfold c_X0_exercise_b15 at hf
  unfold f_X0_exercise_b15
  obtain ⟨g1603, e1602, hf⟩ := zbind hf
  refine kb1 ((r_sL hq_s0 _ _).trans (congrArg (Option.map (cH p _)) e1602)) ?_
  have h := iH_g h (gle_sL e1602)
  cases hf
  exact ⟨rfl, h⟩
def c_X0_exercise_b0 (E : zE) (N : iN) (p1 : Int32) (p2 : Nat) (s : cT) (g : zH) : Option (Int32 × (cT × zH)) :=
  bnd2 (c_X1_exercise E N p1 s g) fun x4 z1605 =>
  Sum.elim (fun x5 => (
    if x5 = 0 then (
      c_X0_exercise_b15 E N p2 (0 : Int32) (0 : Int64) z1605.1 z1605.2
    ) else (
      c_X0_exercise_b15 E N p2 (0 : Int32) (1 : Int64) z1605.1 z1605.2
    )
  )) (fun q6 => (
    if q6.1 = 20 then (
      c_X0_exercise_b19 E N q6.2 z1605.1 z1605.2
    ) else (
      none
    )
  )) x4
theorem cs_X0_exercise_b0 (E : zE) {s : cT} {g : zH} (h : iH p s g N) {p1 : Int32} {p2 : Nat} (hq_p2 : p.2 p2 = none) (hf : c_X0_exercise_b0 E N p1 p2 s g = some (r, (s9, g9))) : f_X0_exercise_b0 E (p.1 1) p1 p2 (cH p s g) = some (r, cH p s9 g9) ∧ iH p s9 g9 N := by
  unfold c_X0_exercise_b0 at hf
  unfold f_X0_exercise_b0
  refine kb1 (a_X_ck h) ?_
  obtain ⟨x4, z1605, e1604, hf⟩ := zbind2 hf
  obtain ⟨e1604, h⟩ := cs_X1_exercise E h e1604
  refine kbc e1604 ?_
  rcases x4 with x5 | q6
  · have hf := zinl hf
    refine kel0_l ?_
    by_cases c1607 : x5 = 0
    · have hf := zif_t c1607 hf
      refine kif_t c1607 ?_
      exact cs_X0_exercise_b15 E h hq_p2 hf
    · have hf := zif_f c1607 hf
      refine kif_f c1607 ?_
      exact cs_X0_exercise_b15 E h hq_p2 hf
  · have hf := zinr hf
    refine kel0_r ?_
    by_cases c1608 : q6.1 = 20
    · have hf := zif_t c1608 hf
      refine kif_t c1608 ?_
      exact cs_X0_exercise_b19 E h hf
    · have hf := zif_f c1608 hf
      refine kif_f c1608 ?_
      cases hf
def c_X0_exercise (E : zE) (N : iN) (p1 : Int32) (p2 : Nat) (s : cT) (g : zH) : Option (Int32 × (cT × zH)) :=
  c_X0_exercise_b0 E N p1 p2 s g
theorem cs_X0_exercise (E : zE) {s : cT} {g : zH} (h : iH p s g N) {p1 : Int32} {p2 : Nat} (hq_p2 : p.2 p2 = none) (hf : c_X0_exercise E N p1 p2 s g = some (r, (s9, g9))) : f_X0_exercise E (p.1 1) p1 p2 (cH p s g) = some (r, cH p s9 g9) ∧ iH p s9 g9 N := by
  unfold c_X0_exercise at hf
  unfold f_X0_exercise
  exact cs_X0_exercise_b0 E h hq_p2 hf
end
section
variable {p : cP} {N : iN} {r : Int32} {s9 : cT} {g9 : zH}
def c_X0_withdraw_b19 (E : zE) (N : iN) (s0 : Nat) (s : cT) (g : zH) : Option (Int32 × (cT × zH)) :=
  some ((1 : Int32), (s, g))
theorem cs_X0_withdraw_b19 (E : zE) {s : cT} {g : zH} (h : iH p s g N) {s0 : Nat} (hf : c_X0_withdraw_b19 E N s0 s g = some (r, (s9, g9))) : f_X0_withdraw_b19 E s0 (cH p s g) = some (r, cH p s9 g9) ∧ iH p s9 g9 N := by
  unfold c_X0_withdraw_b19 at hf
  unfold f_X0_withdraw_b19
  cases hf
  exact ⟨rfl, h⟩
def c_X0_withdraw_b15 (E : zE) (N : iN) (s0 : Nat) (s1 : Int32) (s2 : Int64) (s : cT) (g : zH) : Option (Int32 × (cT × zH)) :=
  (sL g s0 s1 s2).bind fun g1610 =>
  some ((0 : Int32), (s, g1610))
theorem cs_X0_withdraw_b15 (E : zE) {s : cT} {g : zH} (h : iH p s g N) {s0 : Nat} {s1 : Int32} {s2 : Int64} (hq_s0 : p.2 s0 = none) (hf : c_X0_withdraw_b15 E N s0 s1 s2 s g = some (r, (s9, g9))) : f_X0_withdraw_b15 E s0 s1 s2 (cH p s g) = some (r, cH p s9 g9) ∧ iH p s9 g9 N := by
  unfold c_X0_withdraw_b15 at hf
  unfold f_X0_withdraw_b15
  obtain ⟨g1610, e1609, hf⟩ := zbind hf
  refine kb1 ((r_sL hq_s0 _ _).trans (congrArg (Option.map (cH p _)) e1609)) ?_
  have h := iH_g h (gle_sL e1609)
  cases hf
  exact ⟨rfl, h⟩
def c_X0_withdraw_b0 (E : zE) (N : iN) (p1 : Int32) (p2 : Nat) (s : cT) (g : zH) : Option (Int32 × (cT × zH)) :=
  bnd2 (c_X1_withdraw E N p1 s g) fun x4 z1612 =>
  Sum.elim (fun x5 => (
    if x5 = 0 then (
      c_X0_withdraw_b15 E N p2 (0 : Int32) (0 : Int64) z1612.1 z1612.2
    ) else (
      c_X0_withdraw_b15 E N p2 (0 : Int32) (1 : Int64) z1612.1 z1612.2
    )
  )) (fun q6 => (
    if q6.1 = 20 then (
      c_X0_withdraw_b19 E N q6.2 z1612.1 z1612.2
    ) else (
      none
    )
  )) x4
theorem cs_X0_withdraw_b0 (E : zE) {s : cT} {g : zH} (h : iH p s g N) {p1 : Int32} {p2 : Nat} (hq_p2 : p.2 p2 = none) (hf : c_X0_withdraw_b0 E N p1 p2 s g = some (r, (s9, g9))) : f_X0_withdraw_b0 E (p.1 1) p1 p2 (cH p s g) = some (r, cH p s9 g9) ∧ iH p s9 g9 N := by
  unfold c_X0_withdraw_b0 at hf
  unfold f_X0_withdraw_b0
  refine kb1 (a_X_ck h) ?_
  obtain ⟨x4, z1612, e1611, hf⟩ := zbind2 hf
  obtain ⟨e1611, h⟩ := cs_X1_withdraw E h e1611
  refine kbc e1611 ?_
  rcases x4 with x5 | q6
  · have hf := zinl hf
    refine kel0_l ?_
    by_cases c1614 : x5 = 0
    · have hf := zif_t c1614 hf
      refine kif_t c1614 ?_
      exact cs_X0_withdraw_b15 E h hq_p2 hf
    · have hf := zif_f c1614 hf
      refine kif_f c1614 ?_
      exact cs_X0_withdraw_b15 E h hq_p2 hf
  · have hf := zinr hf
    refine kel0_r ?_
    by_cases c1615 : q6.1 = 20
    · have hf := zif_t c1615 hf
      refine kif_t c1615 ?_
      exact cs_X0_withdraw_b19 E h hf
    · have hf := zif_f c1615 hf
      refine kif_f c1615 ?_
      cases hf
def c_X0_withdraw (E : zE) (N : iN) (p1 : Int32) (p2 : Nat) (s : cT) (g : zH) : Option (Int32 × (cT × zH)) :=
  c_X0_withdraw_b0 E N p1 p2 s g
theorem cs_X0_withdraw (E : zE) {s : cT} {g : zH} (h : iH p s g N) {p1 : Int32} {p2 : Nat} (hq_p2 : p.2 p2 = none) (hf : c_X0_withdraw E N p1 p2 s g = some (r, (s9, g9))) : f_X0_withdraw E (p.1 1) p1 p2 (cH p s g) = some (r, cH p s9 g9) ∧ iH p s9 g9 N := by
  unfold c_X0_withdraw at hf
  unfold f_X0_withdraw
  exact cs_X0_withdraw_b0 E h hq_p2 hf
end
section
variable {p : cP} {N : iN} {r : Int32} {s9 : cT} {g9 : zH}
def c_X0_transferState_b12 (E : zE) (N : iN) (s0 : Nat) (s : cT) (g : zH) : Option (Int32 × (cT × zH)) :=
  some ((1 : Int32), (s, g))
theorem cs_X0_transferState_b12 (E : zE) {s : cT} {g : zH} (h : iH p s g N) {s0 : Nat} (hf : c_X0_transferState_b12 E N s0 s g = some (r, (s9, g9))) : f_X0_transferState_b12 E s0 (cH p s g) = some (r, cH p s9 g9) ∧ iH p s9 g9 N := by
  unfold c_X0_transferState_b12 at hf
  unfold f_X0_transferState_b12
  cases hf
  exact ⟨rfl, h⟩
def c_X0_transferState_b0 (E : zE) (N : iN) (p1 : Int32) (p2 : Nat) (s : cT) (g : zH) : Option (Int32 × (cT × zH)) :=
  bnd2 (c_X1_transferState E N p1 s g) fun x4 z1617 =>
  Sum.elim (fun x5 => (
    (sL z1617.2 p2 (0 : Int32) (x5.toInt64)).bind fun g1620 =>
    some ((0 : Int32), (z1617.1, g1620))
  )) (fun q6 => (
    if q6.1 = 20 then (
      c_X0_transferState_b12 E N q6.2 z1617.1 z1617.2
    ) else (
      none
    )
  )) x4
theorem cs_X0_transferState_b0 (E : zE) {s : cT} {g : zH} (h : iH p s g N) {p1 : Int32} {p2 : Nat} (hq_p2 : p.2 p2 = none) (hf : c_X0_transferState_b0 E N p1 p2 s g = some (r, (s9, g9))) : f_X0_transferState_b0 E (p.1 1) p1 p2 (cH p s g) = some (r, cH p s9 g9) ∧ iH p s9 g9 N := by
  unfold c_X0_transferState_b0 at hf
  unfold f_X0_transferState_b0
  refine kb1 (a_X_ck h) ?_
  obtain ⟨x4, z1617, e1616, hf⟩ := zbind2 hf
  obtain ⟨e1616, h⟩ := cs_X1_transferState E h e1616
  refine kbc e1616 ?_
  rcases x4 with x5 | q6
  · have hf := zinl hf
    refine kel0_l ?_
    obtain ⟨g1620, e1619, hf⟩ := zbind hf
    refine kb1 ((r_sL hq_p2 _ _).trans (congrArg (Option.map (cH p _)) e1619)) ?_
    have h := iH_g h (gle_sL e1619)
    cases hf
    exact ⟨rfl, h⟩
  · have hf := zinr hf
    refine kel0_r ?_
    by_cases c1621 : q6.1 = 20
    · have hf := zif_t c1621 hf
      refine kif_t c1621 ?_
      exact cs_X0_transferState_b12 E h hf
    · have hf := zif_f c1621 hf
      refine kif_f c1621 ?_
      cases hf
def c_X0_transferState (E : zE) (N : iN) (p1 : Int32) (p2 : Nat) (s : cT) (g : zH) : Option (Int32 × (cT × zH)) :=
  c_X0_transferState_b0 E N p1 p2 s g
theorem cs_X0_transferState (E : zE) {s : cT} {g : zH} (h : iH p s g N) {p1 : Int32} {p2 : Nat} (hq_p2 : p.2 p2 = none) (hf : c_X0_transferState E N p1 p2 s g = some (r, (s9, g9))) : f_X0_transferState E (p.1 1) p1 p2 (cH p s g) = some (r, cH p s9 g9) ∧ iH p s9 g9 N := by
  unfold c_X0_transferState at hf
  unfold f_X0_transferState
  exact cs_X0_transferState_b0 E h hq_p2 hf
end
section
variable {p : cP} {N : iN} {r : Int32} {s9 : cT} {g9 : zH}
def c_X0_transferWait_b12 (E : zE) (N : iN) (s0 : Nat) (s : cT) (g : zH) : Option (Int32 × (cT × zH)) :=
  some ((1 : Int32), (s, g))
theorem cs_X0_transferWait_b12 (E : zE) {s : cT} {g : zH} (h : iH p s g N) {s0 : Nat} (hf : c_X0_transferWait_b12 E N s0 s g = some (r, (s9, g9))) : f_X0_transferWait_b12 E s0 (cH p s g) = some (r, cH p s9 g9) ∧ iH p s9 g9 N := by
  unfold c_X0_transferWait_b12 at hf
  unfold f_X0_transferWait_b12
  cases hf
  exact ⟨rfl, h⟩
def c_X0_transferWait_b0 (E : zE) (N : iN) (p1 : Int32) (p2 : Nat) (s : cT) (g : zH) : Option (Int32 × (cT × zH)) :=
  bnd2 (c_X1_transferWait E N p1 s g) fun x4 z1623 =>
  Sum.elim (fun x5 => (
    (sL z1623.2 p2 (0 : Int32) (x5.toInt64)).bind fun g1626 =>
    some ((0 : Int32), (z1623.1, g1626))
  )) (fun q6 => (
    if q6.1 = 20 then (
      c_X0_transferWait_b12 E N q6.2 z1623.1 z1623.2
    ) else (
      none
    )
  )) x4
theorem cs_X0_transferWait_b0 (E : zE) {s : cT} {g : zH} (h : iH p s g N) {p1 : Int32} {p2 : Nat} (hq_p2 : p.2 p2 = none) (hf : c_X0_transferWait_b0 E N p1 p2 s g = some (r, (s9, g9))) : f_X0_transferWait_b0 E (p.1 1) p1 p2 (cH p s g) = some (r, cH p s9 g9) ∧ iH p s9 g9 N := by
  unfold c_X0_transferWait_b0 at hf
  unfold f_X0_transferWait_b0
  refine kb1 (a_X_ck h) ?_
  obtain ⟨x4, z1623, e1622, hf⟩ := zbind2 hf
  obtain ⟨e1622, h⟩ := cs_X1_transferWait E h e1622
  refine kbc e1622 ?_
  rcases x4 with x5 | q6
  · have hf := zinl hf
    refine kel0_l ?_
    obtain ⟨g1626, e1625, hf⟩ := zbind hf
    refine kb1 ((r_sL hq_p2 _ _).trans (congrArg (Option.map (cH p _)) e1625)) ?_
    have h := iH_g h (gle_sL e1625)
    cases hf
    exact ⟨rfl, h⟩
  · have hf := zinr hf
    refine kel0_r ?_
    by_cases c1627 : q6.1 = 20
    · have hf := zif_t c1627 hf
      refine kif_t c1627 ?_
      exact cs_X0_transferWait_b12 E h hf
    · have hf := zif_f c1627 hf
      refine kif_f c1627 ?_
      cases hf
def c_X0_transferWait (E : zE) (N : iN) (p1 : Int32) (p2 : Nat) (s : cT) (g : zH) : Option (Int32 × (cT × zH)) :=
  c_X0_transferWait_b0 E N p1 p2 s g
theorem cs_X0_transferWait (E : zE) {s : cT} {g : zH} (h : iH p s g N) {p1 : Int32} {p2 : Nat} (hq_p2 : p.2 p2 = none) (hf : c_X0_transferWait E N p1 p2 s g = some (r, (s9, g9))) : f_X0_transferWait E (p.1 1) p1 p2 (cH p s g) = some (r, cH p s9 g9) ∧ iH p s9 g9 N := by
  unfold c_X0_transferWait at hf
  unfold f_X0_transferWait
  exact cs_X0_transferWait_b0 E h hq_p2 hf
end
section
variable {p : cP} {N : iN} {r : Int32} {s9 : cT} {g9 : zH}
def c_X0_generation_b12 (E : zE) (N : iN) (s0 : Nat) (s : cT) (g : zH) : Option (Int32 × (cT × zH)) :=
  some ((1 : Int32), (s, g))
theorem cs_X0_generation_b12 (E : zE) {s : cT} {g : zH} (h : iH p s g N) {s0 : Nat} (hf : c_X0_generation_b12 E N s0 s g = some (r, (s9, g9))) : f_X0_generation_b12 E s0 (cH p s g) = some (r, cH p s9 g9) ∧ iH p s9 g9 N := by
  unfold c_X0_generation_b12 at hf
  unfold f_X0_generation_b12
  cases hf
  exact ⟨rfl, h⟩
def c_X0_generation_b0 (E : zE) (N : iN) (p1 : Int32) (p2 : Nat) (s : cT) (g : zH) : Option (Int32 × (cT × zH)) :=
  bnd2 (c_X1_generation E N p1 s g) fun x4 z1629 =>
  Sum.elim (fun x5 => (
    (sL z1629.2 p2 (0 : Int32) (x5.toInt64)).bind fun g1632 =>
    some ((0 : Int32), (z1629.1, g1632))
  )) (fun q6 => (
    if q6.1 = 20 then (
      c_X0_generation_b12 E N q6.2 z1629.1 z1629.2
    ) else (
      none
    )
  )) x4
theorem cs_X0_generation_b0 (E : zE) {s : cT} {g : zH} (h : iH p s g N) {p1 : Int32} {p2 : Nat} (hq_p2 : p.2 p2 = none) (hf : c_X0_generation_b0 E N p1 p2 s g = some (r, (s9, g9))) : f_X0_generation_b0 E (p.1 1) p1 p2 (cH p s g) = some (r, cH p s9 g9) ∧ iH p s9 g9 N := by
  unfold c_X0_generation_b0 at hf
  unfold f_X0_generation_b0
  refine kb1 (a_X_ck h) ?_
  obtain ⟨x4, z1629, e1628, hf⟩ := zbind2 hf
  obtain ⟨e1628, h⟩ := cs_X1_generation E h e1628
  refine kbc e1628 ?_
  rcases x4 with x5 | q6
  · have hf := zinl hf
    refine kel0_l ?_
    obtain ⟨g1632, e1631, hf⟩ := zbind hf
    refine kb1 ((r_sL hq_p2 _ _).trans (congrArg (Option.map (cH p _)) e1631)) ?_
    have h := iH_g h (gle_sL e1631)
    cases hf
    exact ⟨rfl, h⟩
  · have hf := zinr hf
    refine kel0_r ?_
    by_cases c1633 : q6.1 = 20
    · have hf := zif_t c1633 hf
      refine kif_t c1633 ?_
      exact cs_X0_generation_b12 E h hf
    · have hf := zif_f c1633 hf
      refine kif_f c1633 ?_
      cases hf
def c_X0_generation (E : zE) (N : iN) (p1 : Int32) (p2 : Nat) (s : cT) (g : zH) : Option (Int32 × (cT × zH)) :=
  c_X0_generation_b0 E N p1 p2 s g
theorem cs_X0_generation (E : zE) {s : cT} {g : zH} (h : iH p s g N) {p1 : Int32} {p2 : Nat} (hq_p2 : p.2 p2 = none) (hf : c_X0_generation E N p1 p2 s g = some (r, (s9, g9))) : f_X0_generation E (p.1 1) p1 p2 (cH p s g) = some (r, cH p s9 g9) ∧ iH p s9 g9 N := by
  unfold c_X0_generation at hf
  unfold f_X0_generation
  exact cs_X0_generation_b0 E h hq_p2 hf
end
section
variable {p : cP} {N : iN} {r : Int32} {s9 : cT} {g9 : zH}
def c_X0_worth_b12 (E : zE) (N : iN) (s0 : Nat) (s : cT) (g : zH) : Option (Int32 × (cT × zH)) :=
  some ((1 : Int32), (s, g))
theorem cs_X0_worth_b12 (E : zE) {s : cT} {g : zH} (h : iH p s g N) {s0 : Nat} (hf : c_X0_worth_b12 E N s0 s g = some (r, (s9, g9))) : f_X0_worth_b12 E s0 (cH p s g) = some (r, cH p s9 g9) ∧ iH p s9 g9 N := by
  unfold c_X0_worth_b12 at hf
  unfold f_X0_worth_b12
  cases hf
  exact ⟨rfl, h⟩
def c_X0_worth_b0 (E : zE) (N : iN) (p1 : Int32) (p2 : Nat) (s : cT) (g : zH) : Option (Int32 × (cT × zH)) :=
  bnd2 (c_X1_worth E N p1 s g) fun x4 z1635 =>
  Sum.elim (fun x5 => (
    (sL z1635.2 p2 (0 : Int32) (x5.toInt64)).bind fun g1638 =>
    some ((0 : Int32), (z1635.1, g1638))
  )) (fun q6 => (
    if q6.1 = 20 then (
      c_X0_worth_b12 E N q6.2 z1635.1 z1635.2
    ) else (
      none
    )
  )) x4
theorem cs_X0_worth_b0 (E : zE) {s : cT} {g : zH} (h : iH p s g N) {p1 : Int32} {p2 : Nat} (hq_p2 : p.2 p2 = none) (hf : c_X0_worth_b0 E N p1 p2 s g = some (r, (s9, g9))) : f_X0_worth_b0 E (p.1 1) p1 p2 (cH p s g) = some (r, cH p s9 g9) ∧ iH p s9 g9 N := by
  unfold c_X0_worth_b0 at hf
  unfold f_X0_worth_b0
  refine kb1 (a_X_ck h) ?_
  obtain ⟨x4, z1635, e1634, hf⟩ := zbind2 hf
  obtain ⟨e1634, h⟩ := cs_X1_worth E h e1634
  refine kbc e1634 ?_
  rcases x4 with x5 | q6
  · have hf := zinl hf
    refine kel0_l ?_
    obtain ⟨g1638, e1637, hf⟩ := zbind hf
    refine kb1 ((r_sL hq_p2 _ _).trans (congrArg (Option.map (cH p _)) e1637)) ?_
    have h := iH_g h (gle_sL e1637)
    cases hf
    exact ⟨rfl, h⟩
  · have hf := zinr hf
    refine kel0_r ?_
    by_cases c1639 : q6.1 = 20
    · have hf := zif_t c1639 hf
      refine kif_t c1639 ?_
      exact cs_X0_worth_b12 E h hf
    · have hf := zif_f c1639 hf
      refine kif_f c1639 ?_
      cases hf
def c_X0_worth (E : zE) (N : iN) (p1 : Int32) (p2 : Nat) (s : cT) (g : zH) : Option (Int32 × (cT × zH)) :=
  c_X0_worth_b0 E N p1 p2 s g
theorem cs_X0_worth (E : zE) {s : cT} {g : zH} (h : iH p s g N) {p1 : Int32} {p2 : Nat} (hq_p2 : p.2 p2 = none) (hf : c_X0_worth E N p1 p2 s g = some (r, (s9, g9))) : f_X0_worth E (p.1 1) p1 p2 (cH p s g) = some (r, cH p s9 g9) ∧ iH p s9 g9 N := by
  unfold c_X0_worth at hf
  unfold f_X0_worth
  exact cs_X0_worth_b0 E h hq_p2 hf
end
