/-! words; the whole scan -/
set_option maxRecDepth 100000
section LP
variable {E : zE} {p0 : cP} {g0 : zH} {P : cP} {s0 : cT} {rd z L : Nat} {b : Nat → Int32}
/-- a word's end -/
theorem w_end {K M : Nat} (hr : rm g0 K M) (hz : rd < z) (hzx : z + 2 ≤ XT) (hB : BR s0 rd L b) {t0 : twS} {st j k m : Nat} {p : cP} {s : cT} {g : zH} {t : twS} {d : List Nat} (hk : k + 2 ≤ K) (hm : m + 14 ≤ M) (hj : j ≤ L) (hst : st < j) (T : Tr p0 g0 p s g k m) (hf : scF P s0 p s rd z) (h3 : s.2.1 rd 3 = Int32.ofNat j) (h4 : s.2.1 rd 4 = Int32.ofNat st) (hS : Sb s z (z + 1) d.length 10) (hby : ∀ i c, (chd d)[i]? = some c → s.2.1 (z + 1) i = c) (hd : lts d) (hdl : d.length = min (j - st) 10) (ht : Tt t0 t) (h10 : tSc t 10 = Int32.ofNat j) (h14 : tSc t 14 = Int32.ofNat st) (h13 : tSc t 13 = 1) (h9 : tSc t 9 = Int32.ofNat L) (hb : t.2.2.1 7 = b) (hvl : t.2.2.2.2 = Int64.ofNat (wpk d)) (nd : ¬ isLt (byA b L j)) (n n2 : Nat) (hE : 20000 ≤ E.1) : ∃ s1 g1 t1 kd, f_X7_scanWord_l10 E (n + 1) (p.1 rd) (p.1 z) (cH p s g) = some ((), cH p s1 g1) ∧ t_X6_advance_l133 E (n2 + 1) t = some ((), t1) ∧ Tr p0 g0 p s1 g1 (k + 2) (m + 14) ∧ scF P s0 p s1 rd z ∧ s1.2.1 rd 3 = Int32.ofNat j ∧ s1.2.1 rd 4 = Int32.ofNat st ∧ Tt t0 t1 ∧ tSc t1 10 = Int32.ofNat j ∧ tSc t1 14 = Int32.ofNat st ∧ (kd = 1 ∨ kd = 4) ∧ s1.2.1 rd 5 = Int32.ofNat kd ∧ tSc t1 13 = Int32.ofNat kd ∧ wrd d ∧ t1.2.2.2.2 = Int64.ofNat (wpk d) ∧ ∃ a, g0.2.1 ≤ a ∧ s1.2.2.2 rd 7 = some (XT + a) ∧ StrH (rv0 p g1) a (chd d) := by
  have hL := hB.2.2.2.2.2.2.2.1
  have hB1 := BR_sc hB hf hz
  have yb := y_byA (E := E) h9 hL (j := j) (by omega)
  rw [hb] at yb
  obtain ⟨g1, e1, T1, hS1⟩ := sb_tos (E := E) T.1 hS (chd_len d) hby (by omega) (Tr_rm T hr (k1 := 2) (m1 := 14) hk hm)
  have T2 := Tr_tr T T1
  have hc8 := hB1.2.2.2.2.2.2.2.2
  obtain ⟨e3, T3⟩ := Tr_R T2 rd 6 7 (XT + g.2.1) (a := p.1 rd) (b := g.2.1) hB1.1 rfl (by omega) rfl (T.1.2.2.1 _) (Or.inr (Nat.le_add_right _ _)) (fun q6 => by
    have k := (T.1.2.2.2.2.2.2 (XT + g.2.1) (Nat.le_add_right _ _)).1
    omega)
  obtain ⟨e4, T4⟩ := Tr_I T3 rd 6 5 (v := Int32.ofNat (if j - st ≤ 10 then 1 else 4)) hB1.1 rfl rfl
  refine ⟨uI (uR s rd 7 (some (XT + g.2.1))) rd 5 (Int32.ofNat (if j - st ≤ 10 then 1 else 4)), g1, if j - st ≤ 10 then t else uSc t 13 4, if j - st ≤ 10 then 1 else 4, ?_, ?_, T4, scF_I (scF_7 hf _) (by decide) _, by rw [uI_ne _ _ (Or.inr (by decide)), uR_I]; exact h3, by rw [uI_ne _ _ (Or.inr (by decide)), uR_I]; exact h4, ?_, ?_, ?_, ?_, uI_s _ _ _ _, ?_, ⟨by omega, by omega, hd⟩, ?_, g.2.1, T.2.2.1, by rw [uI_R, uR_s], hS1⟩
  · have i3 : gI (cH p (uR s rd 7 (some (XT + g.2.1))) g1) (p.1 rd) 6 3 = some (Int32.ofNat j) := (c_gI T3.1.1 hB1.1 rfl).trans (congrArg some h3)
    have i4 : gI (cH p (uR s rd 7 (some (XT + g.2.1))) g1) (p.1 rd) 6 4 = some (Int32.ofNat st) := (c_gI T3.1.1 hB1.1 rfl).trans (congrArg some h4)
    rw [f_X7_scanWord_l10, c_cko T.1.1 hB1.1, b1_some, x_isL T.1.1 hB1 h3 (by omega), b2_some, bi_f nd, if_pos rfl, c_cko T.1.1 hS.1, b1_some, e1, b2_some, e3, b1_some, i3, b1_some, i4, b1_some, i32_sub (by omega) (by omega)]
    unfold f_X7_scanWord_b82
    by_cases q : j - st ≤ 10
    · rw [if_pos q] at e4 ⊢
      rw [if_pos (by rw [show (10 : Int32) = Int32.ofNat 10 from rfl, i32_le (by omega) (by decide)]; exact q), show pF (cH p (uR s rd 7 (some (XT + g.2.1))) g1) (p.1 rd) 6 5 (.int (1 : Int32)) = _ from e4, b1_some]
    · rw [if_neg q] at e4 ⊢
      rw [if_neg (by rw [show (10 : Int32) = Int32.ofNat 10 from rfl, i32_le (by omega) (by decide)]; exact q), show pF (cH p (uR s rd 7 (some (XT + g.2.1))) g1) (p.1 rd) 6 5 (.int (4 : Int32)) = _ from e4, b1_some]
  · obtain ⟨n3, hn3⟩ : ∃ n3, E.1 = n3 + 1 := ⟨E.1 - 1, by omega⟩
    have e : t_X6_advance_l208 E E.1 t = t_X6_advance_b283 E t := by
      rw [hn3, t_X6_advance_l208, if_neg (by rw [h13]; decide)]
    rw [t_X6_advance_l133, if_pos h13, h10, yb, b2_some, y_isL, b2_some, bi_f nd, if_pos rfl, e, y_b283 (by omega) (by omega) h10 h14 h13]
  · split
    · exact ht
    · exact Tt_u ht (Or.inr (Or.inl rfl)) _
  · split
    · exact h10
    · rw [tSc_u, if_neg (by decide)]; exact h10
  · split
    · exact h14
    · rw [tSc_u, if_neg (by decide)]; exact h14
  · split
    · exact Or.inl rfl
    · exact Or.inr rfl
  · split
    · exact h13
    · rw [tSc_u, if_pos rfl]; rfl
  · split
    · exact hvl
    · exact hvl
theorem w_loop {K M : Nat} (hr : rm g0 K M) (hz : rd < z) (hzx : z + 2 ≤ XT) (hB : BR s0 rd L b) {t0 : twS} {st k m : Nat} (hk : k + 2 ≤ K) (hm : m + 40 ≤ M) (hE : 20000 ≤ E.1) : ∀ r j (p : cP) (s : cT) (g : zH) (t : twS) (n n2 : Nat) (d : List Nat), j + r = L → st ≤ j → (j = st → isLt (byA b L j)) → Tr p0 g0 p s g k m → scF P s0 p s rd z → s.2.1 rd 3 = Int32.ofNat j → s.2.1 rd 4 = Int32.ofNat st → Sb s z (z + 1) d.length 10 → (∀ i c, (chd d)[i]? = some c → s.2.1 (z + 1) i = c) → lts d → d.length = min (j - st) 10 → Tt t0 t → tSc t 10 = Int32.ofNat j → tSc t 14 = Int32.ofNat st → tSc t 13 = 1 → tSc t 9 = Int32.ofNat L → t.2.2.1 7 = b → t.2.2.2.2 = Int64.ofNat (wpk d) → ∃ j1 p1 s1 g1 t1 kd d1, f_X7_scanWord_l10 E (n + r + 1) (p.1 rd) (p.1 z) (cH p s g) = some ((), cH p1 s1 g1) ∧ t_X6_advance_l133 E (n2 + r + 1) t = some ((), t1) ∧ st < j1 ∧ j1 ≤ L ∧ Tr p0 g0 p1 s1 g1 (k + 2) (m + 14) ∧ scF P s0 p1 s1 rd z ∧ s1.2.1 rd 3 = Int32.ofNat j1 ∧ s1.2.1 rd 4 = Int32.ofNat st ∧ Tt t0 t1 ∧ tSc t1 10 = Int32.ofNat j1 ∧ tSc t1 14 = Int32.ofNat st ∧ (kd = 1 ∨ kd = 4) ∧ s1.2.1 rd 5 = Int32.ofNat kd ∧ tSc t1 13 = Int32.ofNat kd ∧ wrd d1 ∧ t1.2.2.2.2 = Int64.ofNat (wpk d1) ∧ ∃ a, g0.2.1 ≤ a ∧ s1.2.2.2 rd 7 = some (XT + a) ∧ StrH (rv0 p1 g1) a (chd d1) := by
  intro r
  induction r with
  | zero =>
    intro j p s g t n n2 d hj hst hfi T hf h3 h4 hS hby hd hdl ht h10 h14 h13 h9 hb hvl
    have nd : ¬ isLt (byA b L j) := fun q => by have := byA_lt (Or.inl q); omega
    obtain ⟨s1, g1, t1, kd, x1, x2, x3⟩ := w_end hr hz hzx hB hk (by omega) (by omega) (Decidable.by_contra fun q => nd (hfi (by omega))) T hf h3 h4 hS hby hd hdl ht h10 h14 h13 h9 hb hvl nd n n2 hE
    exact ⟨j, p, s1, g1, t1, kd, d, x1, x2, Decidable.by_contra fun q => nd (hfi (by omega)), by omega, x3⟩
  | succ r ih =>
    intro j p s g t n n2 d hj hst hfi T hf h3 h4 hS hby hd hdl ht h10 h14 h13 h9 hb hvl
    have hL := hB.2.2.2.2.2.2.2.1
    have hB1 := BR_sc hB hf hz
    have yb := y_byA (E := E) h9 hL (j := j) (by omega)
    rw [hb] at yb
    by_cases nd : isLt (byA b L j)
    · obtain ⟨c, hc1, hc2, hc3⟩ := isLt_n nd
      by_cases q : 10 ≤ j - st
      · obtain ⟨e1, T1⟩ := Tr_I T rd 6 3 (v := Int32.ofNat (j + 1)) hB1.1 rfl rfl
        have nzr : rd ≠ z ∧ rd ≠ z + 1 := ⟨by omega, by omega⟩
        obtain ⟨j1, p1, s1, g1, t1, kd, d1, x1, x2, x3⟩ := ih (j + 1) p (uI s rd 3 (Int32.ofNat (j + 1))) g (uSc t 10 (Int32.ofNat (j + 1))) n n2 d (by omega) (by omega) (fun w => by omega) T1 (scF_I hf (by decide) _) (uI_s _ _ _ _) (by rw [uI_ne _ _ (Or.inr (by decide))]; exact h4) ⟨hS.1, hS.2.1, hS.2.2.1, by rw [uI_ne _ _ (Or.inl (by omega))]; exact hS.2.2.2.1, by rw [uI_ne _ _ (Or.inl (by omega))]; exact hS.2.2.2.2.1, hS.2.2.2.2.2⟩ (fun i x hi => by rw [uI_ne _ _ (Or.inl (by omega))]; exact hby i x hi) hd (by omega) (Tt_u ht (Or.inl rfl) _) (by rw [tSc_u, if_pos rfl]) (by rw [tSc_u, if_neg (by decide)]; exact h14) (by rw [tSc_u, if_neg (by decide)]; exact h13) (by rw [tSc_u, if_neg (by decide)]; exact h9) hb hvl
        refine ⟨j1, p1, s1, g1, t1, kd, d1, ?_, ?_, x3⟩
        · rw [← x1, show n + (r + 1) + 1 = (n + r + 1) + 1 by omega, f_X7_scanWord_l10, c_cko T.1.1 hB1.1, b1_some, x_isL T.1.1 hB1 h3 (by omega), b2_some, bi_t nd, if_neg (by decide), c_gI T.1.1 hB1.1 rfl, h3, b1_some, c_gI T.1.1 hB1.1 rfl, h4, b1_some, i32_sub hst (by omega), if_pos (by rw [show (10 : Int32) = Int32.ofNat 10 from rfl, i32_le (by decide) (by omega)]; exact q)]
          unfold f_X7_scanWord_b41
          rw [c_gI T.1.1 hB1.1 rfl, h3, b1_some, i32_s, e1, b1_some]
        · rw [← x2, show n2 + (r + 1) + 1 = (n2 + r + 1) + 1 by omega, t_X6_advance_l133, if_pos h13, h10, yb, b2_some, y_isL, b2_some, bi_t nd, if_neg (by decide), h10, h14, i32_sub hst (by omega), if_pos (by rw [show (10 : Int32) = Int32.ofNat 10 from rfl, i32_le (by decide) (by omega)]; exact q)]
          unfold t_X6_advance_b195
          rw [h10, i32_s]
      · have hdl2 : d.length = j - st := by omega
        have w50 := wpk_lt hd (by omega)
        have e64 : Int64.ofNat (wpk d) * (32 : Int64) + (Int32.ofNat (96 + c)).toInt64 - (96 : Int64) = Int64.ofNat (wpk (d ++ [c])) := by
          rw [i32_64 (by omega), show (32 : Int64) = Int64.ofNat 32 from rfl, show (96 : Int64) = Int64.ofNat 96 from rfl, ← Int64.ofNat_mul, ← Int64.ofNat_add, i64_sub (by omega) (by omega), wpk_snoc]
          congr 1
          omega
        obtain ⟨u1, u2⟩ := chr_s (96 + c) (by omega)
        have u3 := chr_u (96 + c) (by omega)
        obtain ⟨p1, s1, g1, r1, cap1, a1, ⟨p2, s2, g2, G, a2, a3, a4, a5⟩, a6, a7, a8, a9, a10⟩ := sb_app (E := E) (r' := z + 1) T hr hS (by omega) (fun w => by omega) (by omega) (by omega) (by decide) (by omega) (by omega) (by omega) u2
        rcases G with ⟨y1, y2, y3, y4, y5⟩ | ⟨y1, y2, y3⟩
        · subst y1 y2
          have T1 := a5 _ _ y5
          have pz : p1.1 rd = p.1 rd := (a9 rd (by omega) (by omega) (by omega)).1
          have hf1 := scF_z hf hz (fun d d1 d2 => a9 d d1 d1 d2)
          have hB2 := BR_sc hB hf1 hz
          have h3' : s1.2.1 rd 3 = Int32.ofNat j := (congrFun (a9 rd (by omega) (by omega) (by omega)).2.2.1 3).trans h3
          have h4' : s1.2.1 rd 4 = Int32.ofNat st := (congrFun (a9 rd (by omega) (by omega) (by omega)).2.2.1 4).trans h4
          obtain ⟨e1, T2⟩ := Tr_I T1 rd 6 3 (v := Int32.ofNat (j + 1)) hB2.1 rfl rfl
          have hbn : ∀ i x, (chd (d ++ [c]))[i]? = some x → s1.2.1 (z + 1) i = x := fun i x hi => by
            rw [chd_snoc] at hi
            rcases Nat.lt_or_ge i (chd d).length with w | w
            · rw [List.getElem?_append_left w] at hi
              rw [a7 i (by rw [chd_len] at w; exact w)]
              exact hby i x hi
            · rw [List.getElem?_append_right w] at hi
              have e : i - (chd d).length = 0 := Decidable.by_contra fun q => by
                rw [List.getElem?_eq_none (by simp only [List.length_singleton]; omega)] at hi
                cases hi
              rw [e] at hi
              cases hi
              rw [chd_len] at e w
              rw [show i = d.length by omega, a8, u1]
          obtain ⟨j1, p3, s3, g3, t1, kd, d1, x1, x2, x3⟩ := ih (j + 1) p1 (uI s1 rd 3 (Int32.ofNat (j + 1))) g1 (uSc (uVl t (Int64.ofNat (wpk (d ++ [c])))) 10 (Int32.ofNat (j + 1))) n n2 (d ++ [c]) (by omega) (by omega) (fun w => by omega) T2 (scF_I hf1 (by decide) _) (uI_s _ _ _ _) (by rw [uI_ne _ _ (Or.inr (by decide))]; exact h4') ⟨a6.1, a6.2.1, a6.2.2.1, by rw [uI_ne _ _ (Or.inl (by omega))]; exact a6.2.2.2.1, by rw [uI_ne _ _ (Or.inl (by omega)), List.length_append, List.length_singleton]; exact a6.2.2.2.2.1, by rw [List.length_append, List.length_singleton]; exact a6.2.2.2.2.2⟩ (fun i x hi => by rw [uI_ne _ _ (Or.inl (by omega))]; exact hbn i x hi) (lts_snoc hd hc1 hc2) (by rw [List.length_append, List.length_singleton]; omega) (Tt_u (Tt_v ht _) (Or.inl rfl) _) (by rw [tSc_u, if_pos rfl]) (by rw [tSc_u, if_neg (by decide)]; exact h14) (by rw [tSc_u, if_neg (by decide)]; exact h13) (by rw [tSc_u, if_neg (by decide)]; exact h9) hb rfl
          refine ⟨j1, p3, s3, g3, t1, kd, d1, ?_, ?_, x3⟩
          · rw [← x1, show n + (r + 1) + 1 = (n + r + 1) + 1 by omega, f_X7_scanWord_l10, c_cko T.1.1 hB1.1, b1_some, x_isL T.1.1 hB1 h3 (by omega), b2_some, bi_t nd, if_neg (by decide), c_gI T.1.1 hB1.1 rfl, h3, b1_some, c_gI T.1.1 hB1.1 rfl, h4, b1_some, i32_sub hst (by omega), if_neg (by rw [show (10 : Int32) = Int32.ofNat 10 from rfl, i32_le (by decide) (by omega)]; exact q), c_cko T.1.1 hB1.1, b1_some, x_peek T.1.1 hB1 h3 (by omega), b2_some, c_cko T.1.1 hS.1, b1_some, hc3, u3, a1, b2_some]
            unfold f_X7_scanWord_b41
            rw [← pz, c_gI T1.1.1 hB2.1 rfl, h3', b1_some, i32_s, e1, b1_some, a10]
          · rw [← x2, show n2 + (r + 1) + 1 = (n2 + r + 1) + 1 by omega, t_X6_advance_l133, if_pos h13, h10, yb, b2_some, y_isL, b2_some, bi_t nd, if_neg (by decide), h10, h14, i32_sub hst (by omega), if_neg (by rw [show (10 : Int32) = Int32.ofNat 10 from rfl, i32_le (by decide) (by omega)]; exact q), yb, b2_some, hc3, hvl, e64]
            unfold t_X6_advance_b195
            rw [tSc_v, h10, i32_s]
        · omega
    · obtain ⟨s1, g1, t1, kd, x1, x2, x3⟩ := w_end hr hz hzx hB hk (by omega) (by omega) (Decidable.by_contra fun q => nd (hfi (by omega))) T hf h3 h4 hS hby hd hdl ht h10 h14 h13 h9 hb hvl nd (n + (r + 1)) (n2 + (r + 1)) hE
      exact ⟨j, p, s1, g1, t1, kd, d, x1, x2, Decidable.by_contra fun q => nd (hfi (by omega)), by omega, x3⟩
end LP
