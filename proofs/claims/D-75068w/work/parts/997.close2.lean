/-! closing a month, walked -/
set_option maxRecDepth 100000
def cRow (s : cT) (c : Nat) (j : Int32) : Option Nat := if ¬ (j < 0 ∨ 60 ≤ j.toNatClampNeg) then (s.2.2.2 c j.toNatClampNeg).bind fun e => if s.1 e = (3, 7) then some e else none else none
theorem cRow_spec {s : cT} {c e : Nat} {j : Int32} (h : cRow s c j = some e) : ¬ (j < 0 ∨ 60 ≤ j.toNatClampNeg) ∧ s.2.2.2 c j.toNatClampNeg = some e ∧ s.1 e = (3, 7) := by
  unfold cRow at h
  by_cases hj : ¬ (j < 0 ∨ 60 ≤ j.toNatClampNeg)
  · rw [if_pos hj] at h
    obtain ⟨x, hx, h⟩ := zbind h
    obtain ⟨h1, h2⟩ := z_ite h
    subst h2
    exact ⟨hj, hx, h1⟩
  · rw [if_neg hj] at h; cases h
def c_X4_book_b28 (N : iN) (i e : Nat) (v : Int32) (s : cT) (g : zH) : Option (Unit × (cT × zH)) :=
  (cdL (uI s (N.1 + 130 + i) 7 v) e 7 5).bind fun x5 =>
  (cdL (uL (uI s (N.1 + 130 + i) 7 v) (N.1 + 130 + i) 8 ((uI s (N.1 + 130 + i) 7 v).2.2.1 (N.1 + 130 + i) 8 + x5)) e 7 1).bind fun x11 =>
  some ((), (uL (uL (uI s (N.1 + 130 + i) 7 v) (N.1 + 130 + i) 8 ((uI s (N.1 + 130 + i) 7 v).2.2.1 (N.1 + 130 + i) 8 + x5)) (N.1 + 130 + i) 9 ((uL (uI s (N.1 + 130 + i) 7 v) (N.1 + 130 + i) 8 ((uI s (N.1 + 130 + i) 7 v).2.2.1 (N.1 + 130 + i) 8 + x5)).2.2.1 (N.1 + 130 + i) 9 + x11), g))
def c_X4_book (E : zE) (N : iN) (i e : Nat) (s : cT) (g : zH) : Option (Unit × (cT × zH)) :=
  bnd2 (c_X11_isActive E N i s g) fun x z =>
  if x = 0 then some ((), (z.1, z.2)) else
  if z.1.1 e = (3, 7) then
    (if z.1.2.2.1 (N.1 + 130 + i) 8 ≤ (0 : Int64) then c_X4_book_b28 N i e (0 : Int32) z.1 z.2 else c_X4_book_b28 N i e (z.1.2.1 (N.1 + 130 + i) 7 + (1 : Int32)) z.1 z.2)
  else none
def c_close_l146 (E : zE) (N : iN) : Nat → Int32 → cT → zH → Option (Unit × (cT × zH))
  | 0, _, _, _ => none
  | n + 1, p3, s, g =>
    if (Int32.ofNat N.2.1) ≤ p3 then (
      bnd2 (c_X4_endMonth E N s g) fun _ z => some ((), (z.1, z.2))
    ) else (
      (cGet N.2.1 p3).bind fun i =>
      bnd2 (c_X4_transfer E N i s g) fun _ z =>
      (cRow z.1 (N.1 + 150 + i) (z.1.2.1 (N.1 + 10) 5)).bind fun e =>
      (csL z.1 e 7 6 (z.1.2.2.1 (N.1 + 130 + i) 8)).bind fun s4 =>
      c_close_l146 E N n (p3 + 1) s4 z.2
    )
def c_close_l53 (E : zE) (N : iN) : Nat → Int64 → Int32 → cT → zH → Option (Unit × (cT × zH))
  | 0, _, _, _, _ => none
  | n + 1, p1, p3, s, g =>
    if (Int32.ofNat N.2.1) ≤ p3 then (
      (cdL s (N.1 + 20) 3 0).bind fun x10 =>
      bnd2 (c_X16_of E N 9 p1 s g) fun x21 z =>
      (csL z.1 (N.1 + 20) 3 0 (x10 + x21)).bind fun s22 =>
      c_close_l146 E N E.1 (0 : Int32) s22 z.2
    ) else (
      (cGet N.2.1 p3).bind fun i =>
      (cRow s (N.1 + 150 + i) (s.2.1 (N.1 + 10) 5)).bind fun e =>
      bnd2 (c_X4_book E N i e s g) fun _ z =>
      if z.1.1 e = (3, 7) then (
        (cdL z.1 e 7 1).bind fun x48 =>
        c_close_l53 E N n (p1 + x48) (p3 + 1) z.1 z.2
      ) else none
    )
def c_close_l4 (E : zE) (N : iN) : Nat → Int64 → Int32 → cT → zH → Option (Unit × (cT × zH))
  | 0, _, _, _, _ => none
  | n + 1, p1, p3, s, g =>
    if (Int32.ofNat N.2.1) ≤ p3 then (
      c_close_l53 E N E.1 p1 (0 : Int32) s g
    ) else (
      (cGet N.2.1 p3).bind fun i =>
      bnd2 (c_X4_statement E N p3 (100 : Int32) s g) fun v z =>
      (lRow z.2 v).bind fun f =>
      if ¬ (s.2.1 (N.1 + 10) 5 < 0 ∨ 60 ≤ (s.2.1 (N.1 + 10) 5).toNatClampNeg) ∧ (g.2.1 ≤ v ∧ v < z.2.2.1) then
        c_close_l4 E N n p1 (p3 + 1) (uR (adL z.1 v f) (N.1 + 150 + i) (s.2.1 (N.1 + 10) 5).toNatClampNeg (some (XT + v))) z.2
      else none
    )
def c_X1_closeMonth (E : zE) (N : iN) (s : cT) (g : zH) : Option ((Int32 ⊕ (Nat × Nat)) × (cT × zH)) :=
  bnd2 (c_X1_requireMonth E N s g) fun x z =>
  Sum.elim (fun _ => (
    bnd2 (c_close_l4 E N E.1 (0 : Int64) (0 : Int32) z.1 z.2) fun _ z2 =>
    some (.inl (z2.1.2.1 (N.1 + 10) 5), (z2.1, z2.2))
  )) (fun q => (
    some (.inr q, (z.1, z.2))
  )) x
section CM
variable {p : cP} {N : iN} {r : Unit} {s9 : cT} {g9 : zH}
theorem cs_X4_book_b28 (E : zE) {s : cT} {g : zH} (h : iH p s g N) {i e : Nat} {v : Int32} (hi : i < N.2.1) (he : s.1 e = (1 + 2, 7)) (hf : c_X4_book_b28 N i e v s g = some (r, (s9, g9))) : f_X4_book_b28 E (p.1 (N.1 + 130 + i)) (p.1 e) (p.1 (N.1 + 130 + i)) v (cH p s g) = some (r, cH p s9 g9) ∧ iH p s9 g9 N := by
  unfold c_X4_book_b28 at hf
  unfold f_X4_book_b28
  refine kb1 (a_Fr_pI7 h hi _) ?_
  have h := iH_uI h (d := (N.1 + 130 + i)) (by have := h.2.2.2.2.2; exact ⟨by omega, by omega, by omega, fun _ _ => by omega⟩) 7 v
  refine kb1 (a_Fr_L8 h hi) ?_
  obtain ⟨x5, e5, hf⟩ := zbind hf
  obtain ⟨hj, e5⟩ := cdL_spec e5
  refine kb1 ((c_dL h.1 (c := e) (n := 7) he hj).trans (congrArg some e5)) ?_
  refine kb1 (a_Fr_pL8 h hi _) ?_
  have h := iH_uL h (N.1 + 130 + i) 8 ((uI s (N.1 + 130 + i) 7 v).2.2.1 (N.1 + 130 + i) 8 + x5)
  refine kb1 (a_Fr_L9 h hi) ?_
  obtain ⟨x11, e11, hf⟩ := zbind hf
  obtain ⟨hj, e11⟩ := cdL_spec e11
  refine kb1 ((c_dL h.1 (c := e) (n := 7) he hj).trans (congrArg some e11)) ?_
  refine kb1 (a_Fr_pL9 h hi _) ?_
  have h := iH_uL h (N.1 + 130 + i) 9 ((uL (uI s (N.1 + 130 + i) 7 v) (N.1 + 130 + i) 8 ((uI s (N.1 + 130 + i) 7 v).2.2.1 (N.1 + 130 + i) 8 + x5)).2.2.1 (N.1 + 130 + i) 9 + x11)
  cases hf
  exact ⟨rfl, h⟩
theorem cs_X4_book (E : zE) {s : cT} {g : zH} (h : iH p s g N) {i e : Nat} (hi : i < N.2.1) (hf : c_X4_book E N i e s g = some (r, (s9, g9))) : f_X4_book E (p.1 (N.1 + 10)) (p.1 (N.1 + 130 + i)) (p.1 e) (cH p s g) = some (r, cH p s9 g9) ∧ iH p s9 g9 N := by
  unfold c_X4_book at hf
  unfold f_X4_book f_X4_book_b0
  refine kb1 (a_Fr_ck h hi) ?_
  obtain ⟨x, z, e1, hf⟩ := zbind2 hf
  obtain ⟨e1, h⟩ := cs_X11_isActive E h hi e1
  refine kbc e1 ?_
  by_cases c1 : x = 0
  · have hf := zif_t c1 hf
    refine kif_t c1 ?_
    cases hf
    exact ⟨rfl, h⟩
  · have hf := zif_f c1 hf
    refine kif_f c1 ?_
    by_cases c2 : z.1.1 e = (3, 7)
    · have hf := zif_t c2 hf
      refine kb1 (a_Fr_L8 h hi) ?_
      by_cases c3 : z.1.2.2.1 (N.1 + 130 + i) 8 ≤ (0 : Int64)
      · have hf := zif_t c3 hf
        refine kif_t c3 ?_
        exact cs_X4_book_b28 E h hi c2 hf
      · have hf := zif_f c3 hf
        refine kif_f c3 ?_
        refine kb1 (a_Fr_I7 h hi) ?_
        exact cs_X4_book_b28 E h hi c2 hf
    · have hf := zif_f c2 hf
      cases hf
theorem cs_close_l146 (E : zE) : ∀ (n : Nat) {s : cT} {g : zH} (h : iH p s g N) {p3 : Int32}, c_close_l146 E N n p3 s g = some (r, (s9, g9)) → f_X4_close_l146 E n (p.1 (N.1 + 10)) p3 (cH p s g) = some (r, cH p s9 g9) ∧ iH p s9 g9 N := by
  intro n
  induction n with
  | zero =>
    intro s g h p3 hf
    cases hf
  | succ n ih =>
    intro s g h p3 hf
    unfold c_close_l146 at hf
    unfold f_X4_close_l146
    refine kb1 (a_Bk_R0 h) ?_
    refine kb1 (a_FL_ck h) ?_
    refine kbc (a_FL_n h E) ?_
    by_cases c1 : (Int32.ofNat N.2.1) ≤ p3
    · have hf := zif_t c1 hf
      refine kif_t c1 ?_
      refine kb1 (a_Bk_ck h) ?_
      obtain ⟨x, z, e1, hf⟩ := zbind2 hf
      obtain ⟨e1, h⟩ := cs_X4_endMonth E h e1
      refine kbc e1 ?_
      cases hf
      exact ⟨rfl, h⟩
    · have hf := zif_f c1 hf
      refine kif_f c1 ?_
      refine kb1 (a_Bk_R0 h) ?_
      refine kb1 (a_FL_ck h) ?_
      obtain ⟨i, ei, hf⟩ := zbind hf
      have hi := cGet_lt ei
      refine kbc (a_FL_G h E ei) ?_
      refine kb1 (a_Fr_ck h hi) ?_
      refine kb1 (a_Bk_ck h) ?_
      obtain ⟨x, z, e1, hf⟩ := zbind2 hf
      obtain ⟨e1, h⟩ := cs_X4_transfer E h hi e1
      refine kbc e1 ?_
      refine kb1 (a_Bk_R0 h) ?_
      refine kb1 (a_FL_ck h) ?_
      refine kbc (a_FL_G h E ei) ?_
      refine kb1 (a_Fr_ck h hi) ?_
      refine kb1 (a_Fr_R1 h hi) ?_
      refine kb1 (a_Bk_I5 h) ?_
      obtain ⟨e, ee, hf⟩ := zbind hf
      obtain ⟨q1, q2, q3⟩ := cRow_spec ee
      refine kb1 (c_dR h.1 (t := 5) (n := 60) ((h.2.2.2.1.2.2.2.2.2.2.2.2.2.2.2.2.1 i hi).2.2.2.2.2.1) (Or.inr (Or.inl rfl)) q1 q2) ?_
      refine kb1 (a_Bk_R0 h) ?_
      refine kb1 (a_FL_ck h) ?_
      refine kbc (a_FL_G h E ei) ?_
      refine kb1 (a_Fr_ck h hi) ?_
      refine kb1 (a_Fr_L8 h hi) ?_
      obtain ⟨s4, e4, hf⟩ := zbind hf
      obtain ⟨hj, e4⟩ := csL_spec e4
      refine kb1 ((c_sL h.1 (n := 7) q3 hj).trans (congrArg (fun z9 => some (cH p z9 _)) e4)) ?_
      have h := iH_uL h e (6 : Int32).toNatClampNeg (z.1.2.2.1 (N.1 + 130 + i) 8)
      rw [e4] at h
      exact ih h hf
theorem cs_close_l53 (E : zE) : ∀ (n : Nat) {s : cT} {g : zH} (h : iH p s g N) {p1 : Int64} {p3 : Int32}, c_close_l53 E N n p1 p3 s g = some (r, (s9, g9)) → f_X4_close_l53 E n (p.1 (N.1 + 10)) p1 p3 (cH p s g) = some (r, cH p s9 g9) ∧ iH p s9 g9 N := by
  intro n
  induction n with
  | zero =>
    intro s g h p1 p3 hf
    cases hf
  | succ n ih =>
    intro s g h p1 p3 hf
    unfold c_close_l53 at hf
    unfold f_X4_close_l53
    refine kb1 (a_Bk_R0 h) ?_
    refine kb1 (a_FL_ck h) ?_
    refine kbc (a_FL_n h E) ?_
    by_cases c1 : (Int32.ofNat N.2.1) ≤ p3
    · have hf := zif_t c1 hf
      refine kif_t c1 ?_
      refine kb1 (a_Bk_R4 h) ?_
      obtain ⟨x10, e10, hf⟩ := zbind hf
      obtain ⟨hj, e10⟩ := cdL_spec e10
      refine kb1 ((a_spe_d h hj).trans (congrArg some e10)) ?_
      refine kb1 (a_Bk_R6 h) ?_
      refine kb1 (a_X_R0 h) ?_
      refine kb1 (a_Ru_R4 h) ?_
      refine kb1 (c_cko h.1 (h.2.2.2.2.1.2.2.2.2.2.2.2.2.1)) ?_
      obtain ⟨x21, z, e21, hf⟩ := zbind2 hf
      obtain ⟨e21, h⟩ := cs_X16_of E h (h.2.2.2.2.1.2.2.2.2.2.2.2.2.1) e21
      refine kbc e21 ?_
      obtain ⟨s22, e22, hf⟩ := zbind hf
      obtain ⟨hj, e22⟩ := csL_spec e22
      refine kb1 ((a_spe_s h hj _).trans (congrArg (fun z9 => some (cH p z9 _)) e22)) ?_
      have h := iH_uL h (N.1 + 20) (0 : Int32).toNatClampNeg (x10 + x21)
      rw [e22] at h
      exact cs_close_l146 E E.1 h hf
    · have hf := zif_f c1 hf
      refine kif_f c1 ?_
      refine kb1 (a_Bk_R0 h) ?_
      refine kb1 (a_FL_ck h) ?_
      obtain ⟨i, ei, hf⟩ := zbind hf
      have hi := cGet_lt ei
      refine kbc (a_FL_G h E ei) ?_
      refine kb1 (a_Fr_ck h hi) ?_
      refine kb1 (a_Fr_R1 h hi) ?_
      refine kb1 (a_Bk_I5 h) ?_
      obtain ⟨e, ee, hf⟩ := zbind hf
      obtain ⟨q1, q2, q3⟩ := cRow_spec ee
      refine kb1 (c_dR h.1 (t := 5) (n := 60) ((h.2.2.2.1.2.2.2.2.2.2.2.2.2.2.2.2.1 i hi).2.2.2.2.2.1) (Or.inr (Or.inl rfl)) q1 q2) ?_
      refine kb1 (a_Bk_R0 h) ?_
      refine kb1 (a_FL_ck h) ?_
      refine kbc (a_FL_G h E ei) ?_
      refine kb1 (a_Fr_ck h hi) ?_
      refine kb1 (a_Bk_ck h) ?_
      obtain ⟨x, z, e1, hf⟩ := zbind2 hf
      obtain ⟨e1, h⟩ := cs_X4_book E h hi e1
      refine kbc e1 ?_
      by_cases c2 : z.1.1 e = (3, 7)
      · have hf := zif_t c2 hf
        obtain ⟨x48, e48, hf⟩ := zbind hf
        obtain ⟨hj, e48⟩ := cdL_spec e48
        refine kb1 ((c_dL h.1 (n := 7) c2 hj).trans (congrArg some e48)) ?_
        exact ih h hf
      · have hf := zif_f c2 hf
        cases hf
end CM
