/-! the scan as a whole -/
set_option maxRecDepth 100000
/-- the token at hand *(v: raw cells)* -/
def tk (lo : Nat) (s : cT) (t : twS) (v : Nat → Option zC) (rd i kd : Nat) : Prop := kd < 5 ∧ s.2.1 rd 3 = Int32.ofNat i ∧ tSc t 10 = Int32.ofNat i ∧ (∃ st, st ≤ 1500 ∧ s.2.1 rd 4 = Int32.ofNat st ∧ tSc t 14 = Int32.ofNat st) ∧ s.2.1 rd 5 = Int32.ofNat kd ∧ tSc t 13 = Int32.ofNat kd ∧ (kd = 2 → ∃ n, n < 1000000 ∧ s.2.1 rd 6 = Int32.ofNat n ∧ t.2.2.2.2 = Int64.ofNat n) ∧ (kd = 1 → ∃ d a, lo ≤ a ∧ wrd d ∧ t.2.2.2.2 = Int64.ofNat (wpk d) ∧ s.2.2.2 rd 7 = some (XT + a) ∧ StrH v a (chd d))
theorem tk_v {lo lo1 : Nat} {s : cT} {t : twS} {v v1 : Nat → Option zC} {rd i kd : Nat} (h : tk lo s t v rd i kd) (hl : lo1 ≤ lo) (hv : svw v v1) : tk lo1 s t v1 rd i kd := by
  obtain ⟨a1, a2, a3, a4, a5, a6, a7, a8⟩ := h
  refine ⟨a1, a2, a3, a4, a5, a6, a7, fun q => ?_⟩
  obtain ⟨d, a, b1, b2, b3, b4, b5⟩ := a8 q
  exact ⟨d, a, by omega, b2, b3, b4, hv.2 _ _ b5⟩
section LS
variable {E : zE} {p : cP} {s : cT} {g : zH} {t : twS} {rd z L i : Nat} {b : Nat → Int32}
theorem L_scan (hE : 20000 ≤ E.1) (hK : Kp p s g) (hr : rm g 4 60) (hz : rd < z) (hzx : z + 2 ≤ XT) (hz0 : (s.1 z).1 = 0) (hz1 : (s.1 (z + 1)).1 = 0) (hB : BR s rd L b) (hi : i ≤ L) (h3 : s.2.1 rd 3 = Int32.ofNat i) (h10 : tSc t 10 = Int32.ofNat i) (h9 : tSc t 9 = Int32.ofNat L) (hb : t.2.2.1 7 = b) : ∃ p1 s1 g1 t1 i1 kd, f_X7_scan E (p.1 rd) (cH p s g) = some ((), cH p1 s1 g1) ∧ t_X6_advance E t = some ((), t1) ∧ Tr p g p1 s1 g1 4 28 ∧ scF p s p1 s1 rd z ∧ Tt t t1 ∧ i ≤ i1 ∧ i1 ≤ L ∧ (kd ≠ 0 → i < i1) ∧ tk g.2.1 s1 t1 (rv0 p1 g1) rd i1 kd := by
  have hL := hB.2.2.2.2.2.2.2.1
  obtain ⟨j, s1, t1, n1, n3, c1, c2, q1, q2, q3, q4, T, hf, h3', ht, h10', h9', hb', hsh⟩ := k_skip (E := E) hz hB (t0 := t) (L - i) i 0 0 p s g t (E.1 - (L - i) - 1) (E.1 - (L - i) - 1) (by omega) (Tr_0 hK) (scF_rfl p s rd z) h3 (Tt_rfl t) h10 h9 hb
  rw [show E.1 - (L - i) - 1 + (L - i) + 1 = E.1 by omega] at c1 c2
  have hB1 := BR_sc hB hf hz
  have hrx : rd < XT := by omega
  obtain ⟨e4, T4⟩ := Tr_I T rd 6 4 (v := Int32.ofNat j) hB1.1 rfl rfl
  obtain ⟨e7, T7⟩ := Tr_R T4 rd 6 7 (XT + E.2.1 7) (a := p.1 rd) (b := E.2.1 7) hB1.1 rfl hrx rfl (T.1.2.2.1 _) (Or.inr (Nat.le_add_right _ _)) (fun q6 => by
    have k := (T.1.2.2.2.2.2.2 (XT + E.2.1 7) (Nat.le_add_right _ _)).1
    have q6 : (s1.1 (XT + E.2.1 7)).1 = 6 := q6
    omega)
  have hf7 := scF_7 (scF_I hf (show 3 ≤ 4 ∧ 4 ≤ 6 by decide) (Int32.ofNat j)) (some (XT + E.2.1 7))
  generalize hs2 : uR (uI s1 rd 4 (Int32.ofNat j)) rd 7 (some (XT + E.2.1 7)) = s2 at e7 T7 hf7
  have hB2 := BR_sc hB hf7 hz
  have i3 : s2.2.1 rd 3 = Int32.ofNat j := by rw [← hs2, uR_I, uI_ne _ _ (Or.inr (by decide))]; exact h3'
  have i4 : s2.2.1 rd 4 = Int32.ofNat j := by rw [← hs2, uR_I, uI_s]
  have z2 : (s2.1 z).1 = 0 ∧ (s2.1 (z + 1)).1 = 0 := by
    -- nothing was made till now
    have e : s2.1 = s.1 := by rw [← hs2]; exact hsh
    rw [e]; exact ⟨hz0, hz1⟩
  generalize ht2 : uVl (uSc t1 14 (Int32.ofNat j)) 0 = t2
  have t10 : tSc t2 10 = Int32.ofNat j := by rw [← ht2, tSc_v, tSc_u, if_neg (by decide)]; exact h10'
  have t14 : tSc t2 14 = Int32.ofNat j := by rw [← ht2, tSc_v, tSc_u, if_pos rfl]
  have t9 : tSc t2 9 = Int32.ofNat L := by rw [← ht2, tSc_v, tSc_u, if_neg (by decide)]; exact h9'
  have tb : t2.2.2.1 7 = b := by rw [← ht2]; exact hb'
  have tv : t2.2.2.2.2 = 0 := by rw [← ht2]; rfl
  have tt : Tt t t2 := by rw [← ht2]; exact Tt_v (Tt_u ht (Or.inr (Or.inr rfl)) _) _
  have y1 := y_byA (E := E) h9' hL (j := j) (by omega)
  rw [hb'] at y1
  have y2 := y_byA (E := E) t9 hL (j := j) (by omega)
  rw [tb] at y2
  have x1 := x_peek (E := E) (g := g) T.1.1 hB1 h3' (by omega)
  have x2 := x_peek (E := E) (g := g) T7.1.1 hB2 i3 (by omega)
  have ck1 := c_cko (g := g) T.1.1 hB1.1
  have ck2 := c_cko (g := g) T7.1.1 hB2.1
  have g3 : gI (cH p s1 g) (p.1 rd) 6 3 = some (Int32.ofNat j) := (c_gI T.1.1 hB1.1 rfl).trans (congrArg some h3')
  have comp : f_X7_scan E (p.1 rd) (cH p s g) = if byA b L j = -1 then ((pF (cH p s2 g) (p.1 rd) 6 5 (.int (0 : Int32))).bind fun h45 => some ((), h45)) else bnd2 (f_X7_isLetter E (p.1 rd) (cH p s2 g)) fun x25 h23 => if x25 = 0 then ((cko h23 (p.1 rd) 6).bind fun _ => bnd2 (f_X7_isDigit E (p.1 rd) h23) fun x30 h28 => if x30 = 0 then ((cko h28 (p.1 rd) 6).bind fun _ => bnd2 (f_X7_peek E (p.1 rd) h28) fun x35 h33 => if x35 = (59 : Int32) then f_X7_scan_b104 E (p.1 rd) (p.1 rd) (3 : Int32) h33 else f_X7_scan_b104 E (p.1 rd) (p.1 rd) (4 : Int32) h33) else ((cko h28 (p.1 rd) 6).bind fun _ => bnd2 (f_X7_scanNumber E (p.1 rd) h28) fun _ h38 => some ((), h38))) else ((cko h23 (p.1 rd) 6).bind fun _ => bnd2 (f_X7_scanWord E (p.1 rd) h23) fun _ h42 => some ((), h42)) := by
    unfold f_X7_scan
    rw [c1, f_X7_scan_l0, ck1, b1_some, x1, b2_some, if_neg q3, ck1, b1_some, x1, b2_some, if_neg q4, g3, b1_some, e4, b1_some, e7, b1_some, ck2, b1_some, x2, b2_some]
    unfold f_X7_scan_b117
    by_cases q : byA b L j = -1
    · rw [if_pos q, if_pos q]
    · rw [if_neg q, if_neg q, ck2, b1_some]
  have twin : t_X6_advance E t = if byA b L j = -1 then t_X6_advance_b104 E (0 : Int32) t2 else (if bi (isLt (byA b L j)) = 0 then (if bi (isDg (byA b L j)) = 0 then (if byA b L j = (59 : Int32) then t_X6_advance_b104 E (3 : Int32) t2 else t_X6_advance_b104 E (4 : Int32) t2) else t_X6_advance_b104 E (2 : Int32) t2) else t_X6_advance_b104 E (1 : Int32) t2) := by
    unfold t_X6_advance
    rw [c2, t_X6_advance_l0, h10', y1, b2_some, if_neg q3, h10', y1, b2_some, if_neg q4, h10', ht2, t14, y2, b2_some, y_isL, b2_some, y_isD, b2_some]
  have b104 : ∀ kd : Int32, kd = 0 ∨ kd = 1 ∨ kd = 2 → t_X6_advance_b104 E kd t2 = t_X6_advance_l133 E E.1 (uSc t2 13 kd) := fun kd hk => by
    unfold t_X6_advance_b104
    rw [tSc_u, if_pos rfl, if_neg (by rcases hk with h | h | h <;> rw [h] <;> decide), if_neg (by rcases hk with h | h | h <;> rw [h] <;> decide)]
  have b123 : ∀ kd : Int32, kd = 3 ∨ kd = 4 → t_X6_advance_b104 E kd t2 = t_X6_advance_l133 E E.1 (uSc (uSc t2 13 kd) 10 (Int32.ofNat (j + 1))) := fun kd hk => by
    unfold t_X6_advance_b104 t_X6_advance_b123
    rw [show tSc (uSc t2 13 kd) 10 = Int32.ofNat j by rw [tSc_u, if_neg (by decide)]; exact t10, tSc_u, if_pos rfl, i32_s]
    rcases hk with h | h
    · rw [if_pos h]
    · rw [if_neg (by rw [h]; decide), if_pos h]
  rw [comp, twin]
  by_cases w1 : byA b L j = -1
  · -- the end
    rw [if_pos w1, if_pos w1]
    obtain ⟨e5, T5⟩ := Tr_I T7 rd 6 5 (v := (0 : Int32)) hB2.1 rfl rfl
    refine ⟨p, uI s2 rd 5 0, g, uSc t2 13 0, j, 0, ?_, ?_, Tr_w T5 (by decide) (by decide), scF_I hf7 (by decide) _, Tt_u tt (Or.inr (Or.inl rfl)) _, q1, q2, fun q => absurd rfl q, by decide, ?_, ?_, ⟨j, by omega, ?_, ?_⟩, ?_, ?_, fun q => by omega, fun q => by omega⟩
    · rw [e5, b1_some]
    · rw [b104 0 (Or.inl rfl)]
      exact y_end hE (by rw [tSc_u, if_pos rfl]; decide) (by rw [tSc_u, if_pos rfl]; decide)
    · rw [uI_ne _ _ (Or.inr (by decide))]; exact i3
    · rw [tSc_u, if_neg (by decide)]; exact t10
    · rw [uI_ne _ _ (Or.inr (by decide))]; exact i4
    · rw [tSc_u, if_neg (by decide)]; exact t14
    · exact uI_s _ _ _ _
    · rw [tSc_u, if_pos rfl]; rfl
  · rw [if_neg w1, if_neg w1, x_isL T7.1.1 hB2 i3 (by omega), b2_some]
    by_cases w2 : isLt (byA b L j)
    · -- a word
      rw [bi_t w2, if_neg (by decide), if_neg (by decide), ck2, b1_some]
      obtain ⟨p3, s3, g3', u1, T3, S3, f3⟩ := sb_new (E := E) T7 hr (cap := 10) (x := (10 : Int32)) rfl (by decide) (by decide) (by decide) (z := z) (zr := z + 1) (by omega) z2.1 z2.2 (by omega) (by omega) (fun q1 h4 => f_X7_scanWord_l10 E E.1 (p.1 rd) q1 h4)
      have hf3 := scF_z hf7 hz f3
      have rd3 := f3 rd (by omega) (by omega)
      have hjL := byA_lt (Or.inl w2)
      obtain ⟨j1, p4, s4, g4, t4, kd, d1, v1, v2, v3, v4, v5, v6, v7, v8, v9, v10, v11, v12, v13, v14, v15, v16, a, va, v17, v18⟩ := w_loop (E := E) hr hz hzx hB (t0 := t) (st := j) (k := 2) (m := 14) (by decide) (by decide) hE (L - j) j p3 s3 g3' (uSc t2 13 1) (E.1 - (L - j) - 1) (E.1 - (L - j) - 1) [] (by omega) (Nat.le_refl _) (fun _ => w2) T3 hf3 ((congrFun rd3.2.2.1 3).trans i3) ((congrFun rd3.2.2.1 4).trans i4) S3 (fun i c hi => by cases hi) (fun k hk => by cases hk) (by show 0 = min (j - j) 10; omega) (Tt_u tt (Or.inr (Or.inl rfl)) _) (by rw [tSc_u, if_neg (by decide)]; exact t10) (by rw [tSc_u, if_neg (by decide)]; exact t14) (by rw [tSc_u, if_pos rfl]) (by rw [tSc_u, if_neg (by decide)]; exact t9) tb tv
      rw [show E.1 - (L - j) - 1 + (L - j) + 1 = E.1 by omega] at v1 v2
      refine ⟨p4, s4, g4, t4, j1, kd, ?_, ?_, Tr_w v5 (by decide) (by decide), v6, v9, by omega, v4, fun _ => by omega, by omega, v7, v10, ⟨j, by omega, v8, v11⟩, v13, v14, fun q => by omega, fun _ => ⟨d1, a, va, v15, v16, v17, v18⟩⟩
      · unfold f_X7_scanWord f_X7_scanWord_b0
        rw [u1, ← rd3.1, v1, b2_some]
      · rw [b104 1 (Or.inr (Or.inl rfl)), v2]
    · rw [bi_f w2, if_pos rfl, if_pos rfl, ck2, b1_some, x_isD T7.1.1 hB2 i3 (by omega), b2_some]
      by_cases w3 : isDg (byA b L j)
      · -- a number
        rw [bi_t w3, if_neg (by decide), if_neg (by decide), ck2, b1_some]
        obtain ⟨e6, T6⟩ := Tr_I T7 rd 6 6 (v := (0 : Int32)) hB2.1 rfl rfl
        have hjL := byA_lt (Or.inr (Or.inl w3))
        obtain ⟨j1, s4, t4, kd, v0, v1, v2, v3, v4, v4', v5, v6, v7, v8, v9, v10, v11, v12, v13, v14, v15, v16, v17⟩ := n_loop (E := E) hz hB (t0 := t) (st := j) (L - j) j 0 0 p (uI s2 rd 6 0) g (uSc t2 13 2) (E.1 - (L - j) - 1) (E.1 - (L - j) - 1) 0 (by omega) (Nat.le_refl _) T6 (scF_I hf7 (by decide) _) (by rw [uI_ne _ _ (Or.inr (by decide))]; exact i3) (by rw [uI_ne _ _ (Or.inr (by decide))]; exact i4) (uI_s _ _ _ _) (Nat.pow_pos (by decide)) (Tt_u tt (Or.inr (Or.inl rfl)) _) (by rw [tSc_u, if_neg (by decide)]; exact t10) (by rw [tSc_u, if_neg (by decide)]; exact t14) (by rw [tSc_u, if_pos rfl]) (by rw [tSc_u, if_neg (by decide)]; exact t9) tb tv
        rw [show E.1 - (L - j) - 1 + (L - j) + 1 = E.1 by omega] at v1 v2
        have hlt := v4' w3
        refine ⟨p, s4, g, t4, j1, kd, ?_, ?_, Tr_w v5 (by decide) (by decide), v6, v9, by omega, v4, fun _ => by omega, by omega, v7, v10, ⟨j, by omega, v8, v11⟩, v13, v14, fun _ => ⟨v0, v15, v16, v17⟩, fun q => by omega⟩
        · unfold f_X7_scanNumber f_X7_scanNumber_b0
          rw [e6, b1_some, v1, b2_some]
        · obtain ⟨nn, hnn⟩ : ∃ nn, E.1 = nn + 1 := ⟨E.1 - 1, by omega⟩
          have k : t_X6_advance_l133 E E.1 (uSc t2 13 2) = t_X6_advance_l208 E E.1 (uSc t2 13 2) := by
            conv => lhs; rw [hnn]
            rw [t_X6_advance_l133, if_neg (by rw [tSc_u, if_pos rfl]; decide)]
          rw [b104 2 (Or.inr (Or.inr rfl)), k, v2]
      · -- one sign
        rw [bi_f w3, if_pos rfl, if_pos rfl, ck2, b1_some, x2, b2_some]
        have hjL := byA_lt (Or.inr (Or.inr w1))
        have gen : ∀ kd : Nat, kd = 3 ∨ kd = 4 → ∃ s4 t4, f_X7_scan_b104 E (p.1 rd) (p.1 rd) (Int32.ofNat kd) (cH p s2 g) = some ((), cH p s4 g) ∧ t_X6_advance_b104 E (Int32.ofNat kd) t2 = some ((), t4) ∧ Tr p g p s4 g 0 0 ∧ scF p s p s4 rd z ∧ Tt t t4 ∧ tk g.2.1 s4 t4 (rv0 p g) rd (j + 1) kd := fun kd hk => by
          obtain ⟨e5, T5⟩ := Tr_I T7 rd 6 5 (v := Int32.ofNat kd) hB2.1 rfl rfl
          obtain ⟨e6, T6⟩ := Tr_I T5 rd 6 3 (v := Int32.ofNat (j + 1)) hB2.1 rfl rfl
          refine ⟨uI (uI s2 rd 5 (Int32.ofNat kd)) rd 3 (Int32.ofNat (j + 1)), uSc (uSc t2 13 (Int32.ofNat kd)) 10 (Int32.ofNat (j + 1)), ?_, ?_, T6, scF_I (scF_I hf7 (by decide) _) (by decide) _, Tt_u (Tt_u tt (Or.inr (Or.inl rfl)) _) (Or.inl rfl) _, by omega, uI_s _ _ _ _, by rw [tSc_u, if_pos rfl], ⟨j, by omega, ?_, ?_⟩, ?_, ?_, fun q => by omega, fun q => by omega⟩
          · unfold f_X7_scan_b104 f_X7_scan_b117
            rw [e5, b1_some, c_gI T5.1.1 hB2.1 rfl, uI_ne _ _ (Or.inr (by decide)), i3, b1_some, i32_s, e6, b1_some]
          · rw [b123 _ (by rcases hk with h | h <;> rw [h] <;> decide)]
            exact y_end hE (by rw [tSc_u, if_neg (by decide), tSc_u, if_pos rfl]; rcases hk with h | h <;> rw [h] <;> decide) (by rw [tSc_u, if_neg (by decide), tSc_u, if_pos rfl]; rcases hk with h | h <;> rw [h] <;> decide)
          · rw [uI_ne _ _ (Or.inr (by decide)), uI_ne _ _ (Or.inr (by decide))]; exact i4
          · rw [tSc_u, if_neg (by decide), tSc_u, if_neg (by decide)]; exact t14
          · rw [uI_ne _ _ (Or.inr (by decide)), uI_s]
          · rw [tSc_u, if_neg (by decide), tSc_u, if_pos rfl]
        by_cases w4 : byA b L j = 59
        · obtain ⟨s4, t4, v1, v2, v3, v4, v5, v6⟩ := gen 3 (Or.inl rfl)
          rw [if_pos w4, if_pos w4]
          exact ⟨p, s4, g, t4, j + 1, 3, v1, v2, Tr_w v3 (by decide) (by decide), v4, v5, by omega, by omega, fun _ => by omega, v6⟩
        · obtain ⟨s4, t4, v1, v2, v3, v4, v5, v6⟩ := gen 4 (Or.inr rfl)
          rw [if_neg w4, if_neg w4]
          exact ⟨p, s4, g, t4, j + 1, 4, v1, v2, Tr_w v3 (by decide) (by decide), v4, v5, by omega, by omega, fun _ => by omega, v6⟩
end LS
