/-! the tokens: scan of the component, advance of the twin -/
set_option maxRecDepth 100000
/-- the reader under rd, the ledger, the buffer *(b: bytes, L of them)* -/
def BR (s : cT) (rd L : Nat) (b : Nat → Int32) : Prop := s.1 rd = (1, 6) ∧ s.2.2.2 rd 8 = some 1 ∧ s.1 1 = (1, 0) ∧ s.2.2.2 1 6 = some 23 ∧ s.1 23 = (4, 1500) ∧ (∀ j, j < 1500 → s.2.1 23 j = b j) ∧ s.2.1 rd 0 = Int32.ofNat L ∧ L ≤ 1500 ∧ 200 ≤ rd
/-- what a scan leaves -/
def scF (p : cP) (s : cT) (p1 : cP) (s1 : cT) (rd z : Nat) : Prop := (∀ d, d ≠ rd → d < z ∨ z + 2 ≤ d → p1.1 d = p.1 d ∧ s1.1 d = s.1 d ∧ s1.2.1 d = s.2.1 d ∧ s1.2.2.1 d = s.2.2.1 d ∧ s1.2.2.2 d = s.2.2.2 d) ∧ p1.1 rd = p.1 rd ∧ s1.1 rd = s.1 rd ∧ (∀ k, k < 3 ∨ 6 < k → s1.2.1 rd k = s.2.1 rd k) ∧ s1.2.2.1 rd = s.2.2.1 rd ∧ ∀ k, k ≠ 7 → s1.2.2.2 rd k = s.2.2.2 rd k
theorem scF_rfl (p : cP) (s : cT) (rd z : Nat) : scF p s p s rd z := ⟨fun _ _ _ => ⟨rfl, rfl, rfl, rfl, rfl⟩, rfl, rfl, fun _ _ => rfl, rfl, fun _ _ => rfl⟩
theorem BR_sc {p : cP} {s : cT} {p1 : cP} {s1 : cT} {rd z L : Nat} {b : Nat → Int32} (h : BR s rd L b) (hf : scF p s p1 s1 rd z) (hz : rd < z) : BR s1 rd L b := by
  obtain ⟨a1, a2, a3, a4, a5, a6, a7, a8, a9⟩ := h
  obtain ⟨f1, f2, f3, f4, f5, f6⟩ := hf
  have x1 := f1 1 (by omega) (Or.inl (by omega))
  have x23 := f1 23 (by omega) (Or.inl (by omega))
  exact ⟨f3.trans a1, (f6 8 (by decide)).trans a2, x1.2.1.trans a3, (congrFun x1.2.2.2.2 6).trans a4, x23.2.1.trans a5, fun j hj => (congrFun x23.2.2.1 j).trans (a6 j hj), (f4 0 (by decide)).trans a7, a8, a9⟩
theorem scF_I {p : cP} {s : cT} {p1 : cP} {s1 : cT} {rd z : Nat} (hf : scF p s p1 s1 rd z) {k : Nat} (hk : 3 ≤ k ∧ k ≤ 6) (v : Int32) : scF p s p1 (uI s1 rd k v) rd z := by
  obtain ⟨f1, f2, f3, f4, f5, f6⟩ := hf
  refine ⟨fun d d1 d2 => ?_, f2, f3, fun j hj => ?_, f5, f6⟩
  · have x := f1 d d1 d2
    exact ⟨x.1, x.2.1, by rw [uI_row _ d1]; exact x.2.2.1, x.2.2.2.1, x.2.2.2.2⟩
  · rw [uI_ne _ _ (Or.inr (by omega))]; exact f4 j hj
theorem scF_7 {p : cP} {s : cT} {p1 : cP} {s1 : cT} {rd z : Nat} (hf : scF p s p1 s1 rd z) (v : Option Nat) : scF p s p1 (uR s1 rd 7 v) rd z := by
  obtain ⟨f1, f2, f3, f4, f5, f6⟩ := hf
  refine ⟨fun d d1 d2 => ?_, f2, f3, f4, f5, fun k hk => ?_⟩
  · have x := f1 d d1 d2
    refine ⟨x.1, x.2.1, x.2.2.1, x.2.2.2.1, ?_⟩
    rw [← x.2.2.2.2]
    funext k
    rw [uR_ne _ _ (Or.inl d1)]
  · rw [uR_ne _ _ (Or.inr hk)]; exact f6 k hk
/-- the builder's codes were written -/
theorem scF_z {p : cP} {s : cT} {p1 p2 : cP} {s1 s2 : cT} {rd z : Nat} (hf : scF p s p1 s1 rd z) (hz : rd < z) (h : ∀ d, d ≠ z + 1 → d ≠ z → p2.1 d = p1.1 d ∧ s2.1 d = s1.1 d ∧ s2.2.1 d = s1.2.1 d ∧ s2.2.2.1 d = s1.2.2.1 d ∧ s2.2.2.2 d = s1.2.2.2 d) : scF p s p2 s2 rd z := by
  obtain ⟨f1, f2, f3, f4, f5, f6⟩ := hf
  have y := h rd (by omega) (by omega)
  refine ⟨fun d d1 d2 => ?_, y.1.trans f2, y.2.1.trans f3, fun k hk => (congrFun y.2.2.1 k).trans (f4 k hk), y.2.2.2.1.trans f5, fun k hk => (congrFun y.2.2.2.2 k).trans (f6 k hk)⟩
  have x := f1 d d1 d2
  have w := h d (by omega) (by omega)
  exact ⟨w.1.trans x.1, w.2.1.trans x.2.1, w.2.2.1.trans x.2.2.1, w.2.2.2.1.trans x.2.2.2.1, w.2.2.2.2.trans x.2.2.2.2⟩
/-- the twin behind a step of a scan -/
def Tt (t t1 : twS) : Prop := t1.1 = t.1 ∧ t1.2.1 = t.2.1 ∧ t1.2.2.1 = t.2.2.1 ∧ ∀ k, k ≠ 10 → k ≠ 13 → k ≠ 14 → tSc t1 k = tSc t k
theorem Tt_rfl (t : twS) : Tt t t := ⟨rfl, rfl, rfl, fun _ _ _ _ => rfl⟩
theorem Tt_tr {t t1 t2 : twS} (h : Tt t t1) (h1 : Tt t1 t2) : Tt t t2 := ⟨h1.1.trans h.1, h1.2.1.trans h.2.1, h1.2.2.1.trans h.2.2.1, fun k a b c => (h1.2.2.2 k a b c).trans (h.2.2.2 k a b c)⟩
theorem Tt_u {t t1 : twS} (h : Tt t t1) {k : Nat} (hk : k = 10 ∨ k = 13 ∨ k = 14) (v : Int32) : Tt t (uSc t1 k v) := ⟨h.1, h.2.1, h.2.2.1, fun j a b c => by rw [tSc_u, if_neg (by omega)]; exact h.2.2.2 j a b c⟩
theorem Tt_v {t t1 : twS} (h : Tt t t1) (v : Int64) : Tt t (uVl t1 v) := h
theorem tSc_v (t : twS) (v : Int64) (k : Nat) : tSc (uVl t v) k = tSc t k := rfl
section SC
variable {p : cP} {s : cT} {g : zH} {E : zE} {rd L j z : Nat} {b : Nat → Int32}
theorem x_peek (hp : okP p s) (h : BR s rd L b) (h3 : s.2.1 rd 3 = Int32.ofNat j) (hj : j ≤ 1501) : f_X7_peek E (p.1 rd) (cH p s g) = some (byA b L j, cH p s g) := by
  obtain ⟨a1, a2, a3, a4, a5, a6, a7, a8, a9⟩ := h
  unfold f_X7_peek f_X7_peek_b0 f_X7_peek_b31 byA
  rw [c_gI hp a1 rfl, h3, b1_some, c_gI hp a1 rfl, a7, b1_some]
  by_cases q : j < L
  · rw [if_neg (by rw [i32_le (by omega) (by omega)]; omega), c_gR hp a1 rfl a2, b1_some, c_gR hp a3 rfl a4, b1_some, b1_some, c_dI hp (t := 2) a5 (Or.inr (Or.inl rfl)) (by rw [nat_clamp (by omega)]; exact fun q => q.elim (i32_nneg (by omega)) (by omega)), nat_clamp (by omega), b1_some, a6 j (by omega), if_pos q]
  · rw [if_pos (by rw [i32_le (by omega) (by omega)]; omega), if_neg q]
theorem x_isL (hp : okP p s) (h : BR s rd L b) (h3 : s.2.1 rd 3 = Int32.ofNat j) (hj : j ≤ 1501) : f_X7_isLetter E (p.1 rd) (cH p s g) = some (bi (isLt (byA b L j)), cH p s g) := by
  unfold f_X7_isLetter f_X7_isLetter_b0
  rw [c_cko hp h.1, b1_some, x_peek hp h h3 hj, b2_some, b_inRange, b2_some, bi_if, zgd_bi, b1_some]
  rfl
theorem x_isD (hp : okP p s) (h : BR s rd L b) (h3 : s.2.1 rd 3 = Int32.ofNat j) (hj : j ≤ 1501) : f_X7_isDigit E (p.1 rd) (cH p s g) = some (bi (isDg (byA b L j)), cH p s g) := by
  unfold f_X7_isDigit f_X7_isDigit_b0
  rw [c_cko hp h.1, b1_some, x_peek hp h h3 hj, b2_some, b_inRange, b2_some, bi_if, zgd_bi, b1_some]
  rfl
/-- a new builder -/
theorem sb_new {p0 : cP} {g0 : zH} {k m K M : Nat} (T : Tr p0 g0 p s g k m) (hr : rm g0 K M) {cap : Nat} {x : Int32} (hx : x = Int32.ofNat cap) (hcap : cap < 10000) (h1 : k + 2 ≤ K) (h2 : m + 4 + cap ≤ M) {zr : Nat} (hzz : z ≠ zr) (hz : (s.1 z).1 = 0) (hzr : (s.1 zr).1 = 0) (hzx : z < XT) (hrx : zr < XT) {α : Type} (F : Nat → zH → Option α) : ∃ p1 s1 g1, bnd2 (nO (cH p s g) 18 4 [.null, .int 0, .int 0, .int 0]) (fun q1 h2 => bnd2 (f_J8_init_2 E q1 x h2) fun _ h4 => F q1 h4) = F (p1.1 z) (cH p1 s1 g1) ∧ Tr p0 g0 p1 s1 g1 (k + 2) (m + 4 + cap) ∧ Sb s1 z zr 0 cap ∧ ∀ d, d ≠ zr → d ≠ z → p1.1 d = p.1 d ∧ s1.1 d = s.1 d ∧ s1.2.1 d = s.2.1 d ∧ s1.2.2.1 d = s.2.2.1 d ∧ s1.2.2.2 d = s.2.2.2 d := by
  subst hx
  obtain ⟨e1, T1⟩ := Tr_new (fs := [.null, .int 0, .int 0, .int 0]) T hr z 18 4 (by omega) (by omega) hz hzx rfl
  obtain ⟨e2, T2⟩ := Tr_arr (x := Int32.ofNat cap) (d := .inl fun _ => 0) T1 hr zr 2 cap (by omega) (by omega) (by omega) rfl rfl (by rw [sNw_1, if_neg (fun q => hzz q.symm)]; exact hzr) hrx
  generalize hg1 : zadd g (true, .inr (18, [.null, .int 0, .int 0, .int 0])) 4 = g1 at e1 T1 e2 T2
  generalize hs1 : sNw s z (1, 18) = s1 at e1 T1 e2 T2
  generalize hp1 : pA p z g.2.1 = p1 at e1 T1 e2 T2
  have q1 : p1.1 z = g.2.1 := by rw [← hp1]; exact cu_same _ _ _
  have c1 : s1.1 z = (1, 18) := by rw [← hs1]; exact cu_same _ _ _
  have I1 : s1.2.1 z = fun _ => 0 := by rw [← hs1]; exact cu_same _ _ _
  have f1 : ∀ d, d ≠ z → p1.1 d = p.1 d ∧ s1.1 d = s.1 d ∧ s1.2.1 d = s.2.1 d ∧ s1.2.2.1 d = s.2.2.1 d ∧ s1.2.2.2 d = s.2.2.2 d := fun d hd => by
    rw [← hp1, ← hs1]
    exact ⟨cu_ne p.1 _ hd, sNw_o s hd _⟩
  generalize hg2 : zadd g1 (true, .inl (2, cap, .inl fun _ => 0)) cap = g2 at e2 T2
  generalize hs2 : sNw s1 zr (2 + 2, cap) = s2 at e2 T2
  generalize hp2 : pA p1 zr g1.2.1 = p2 at e2 T2
  have f2 : ∀ d, d ≠ zr → p2.1 d = p1.1 d ∧ s2.1 d = s1.1 d ∧ s2.2.1 d = s1.2.1 d ∧ s2.2.2.1 d = s1.2.2.1 d ∧ s2.2.2.2 d = s1.2.2.2 d := fun d hd => by
    rw [← hp2, ← hs2]
    exact ⟨cu_ne p1.1 _ hd, sNw_o s1 hd _⟩
  have q2 : p2.1 zr = g1.2.1 := by rw [← hp2]; exact cu_same _ _ _
  have c2 : s2.1 zr = (4, cap) := by rw [← hs2]; exact cu_same _ _ _
  have z2 := f2 z hzz
  obtain ⟨e3, T3⟩ := Tr_R T2 z 18 0 zr (a := g.2.1) (b := g1.2.1) (z2.2.1.trans c1) rfl hzx (z2.1.trans q1) q2 (Or.inl (by rw [c2]; exact Nat.succ_ne_zero _)) (fun q => absurd q (by rw [c2]; exact (show ¬ (4 : Nat) = 6 by decide)))
  obtain ⟨e4, T4⟩ := Tr_I T3 z 18 1 (a := g.2.1) (v := (0 : Int32)) (z2.2.1.trans c1) rfl (z2.1.trans q1)
  refine ⟨p2, _, g2, ?_, T4, ⟨z2.2.1.trans c1, ?_, c2, uI_s _ _ _ _, ?_, Nat.zero_le _, by omega⟩, fun d d1 d2 => ?_⟩
  · unfold f_J8_init_2 f_J8_init_2_b0 f_J7_init f_J7_init_b0 f_J7_init_b38
    rw [e1, b2_some, if_neg (by decide), e2, b2_some, e3, b1_some, e4, b1_some, b2_some, b2_some, z2.1, q1]
  · rw [uI_R, uR_s]
  · rw [uI_ne _ _ (Or.inr (by decide)), uR_I, z2.2.2.1, I1]
    rfl
  · have x1 := f1 d d2
    have x2 := f2 d d1
    exact ⟨x2.1.trans x1.1, x2.2.1.trans x1.2.1, by rw [uI_row _ d2, uR_I]; exact x2.2.2.1.trans x1.2.2.1, x2.2.2.2.1.trans x1.2.2.2.1, by rw [uI_R]; funext q; rw [uR_ne _ _ (Or.inl d2)]; exact congrFun (x2.2.2.2.2.trans x1.2.2.2.2) q⟩
end SC
/-! ## the twin's ends -/
section TE
variable {E : zE} {t : twS}
theorem y_b305 {st j : Nat} (hst : st ≤ j) (hj : j ≤ 1501) (h10 : tSc t 10 = Int32.ofNat j) (h14 : tSc t 14 = Int32.ofNat st) (h13 : tSc t 13 = 2) : t_X6_advance_b283 E t = some ((), if j - st ≤ 6 then t else uSc t 13 4) := by
  unfold t_X6_advance_b283 t_X6_advance_b305 t_X6_advance_b332 t_X6_advance_b327 t_X6_advance_b332
  rw [h13, if_neg (by decide), if_pos rfl, h10, h14, i32_sub hst (by omega)]
  by_cases q : j - st ≤ 6
  · rw [if_pos q, if_pos (by rw [show (6 : Int32) = Int32.ofNat 6 from rfl, i32_le (by omega) (by decide)]; exact q)]
  · rw [if_neg q, if_neg (by rw [show (6 : Int32) = Int32.ofNat 6 from rfl, i32_le (by omega) (by decide)]; exact q)]
theorem y_b283 {st j : Nat} (hst : st ≤ j) (hj : j ≤ 1501) (h10 : tSc t 10 = Int32.ofNat j) (h14 : tSc t 14 = Int32.ofNat st) (h13 : tSc t 13 = 1) : t_X6_advance_b283 E t = some ((), if j - st ≤ 10 then t else uSc t 13 4) := by
  unfold t_X6_advance_b283 t_X6_advance_b305 t_X6_advance_b332 t_X6_advance_b327 t_X6_advance_b332
  rw [h13, if_pos rfl, if_neg (show ¬ (1 : Int32) = 2 by decide), h10, h14, i32_sub hst (by omega)]
  by_cases q : j - st ≤ 10
  · rw [if_pos q, if_neg (by rw [show (10 : Int32) = Int32.ofNat 10 from rfl, i32_lt (by decide) (by omega)]; omega)]
  · rw [if_neg q, if_pos (by rw [show (10 : Int32) = Int32.ofNat 10 from rfl, i32_lt (by decide) (by omega)]; omega)]
theorem y_end (hE : 20000 ≤ E.1) (h1 : tSc t 13 ≠ 1) (h2 : tSc t 13 ≠ 2) : t_X6_advance_l133 E E.1 t = some ((), t) := by
  obtain ⟨n, hn⟩ : ∃ n, E.1 = n + 1 := ⟨E.1 - 1, by omega⟩
  have k : t_X6_advance_l208 E E.1 t = some ((), t) := by
    rw [hn, t_X6_advance_l208, if_neg h2]
    unfold t_X6_advance_b283 t_X6_advance_b305 t_X6_advance_b332
    rw [if_neg h1, if_neg h2]
  rw [hn, t_X6_advance_l133, if_neg h1, k]
end TE
/-! ## blanks -/
section LP
variable {E : zE} {p0 : cP} {g0 : zH} {P : cP} {s0 : cT} {rd z L : Nat} {b : Nat → Int32}
theorem k_skip (hz : rd < z) (hB : BR s0 rd L b) {t0 : twS} : ∀ r j k m (p : cP) (s : cT) (g : zH) (t : twS) (n n2 : Nat), j + r = L → Tr p0 g0 p s g k m → scF P s0 p s rd z → s.2.1 rd 3 = Int32.ofNat j → Tt t0 t → tSc t 10 = Int32.ofNat j → tSc t 9 = Int32.ofNat L → t.2.2.1 7 = b → ∃ j1 s1 t1 n1 n3, f_X7_scan_l0 E (n + r + 1) (p.1 rd) (cH p s g) = f_X7_scan_l0 E (n1 + 1) (p.1 rd) (cH p s1 g) ∧ t_X6_advance_l0 E (n2 + r + 1) t = t_X6_advance_l0 E (n3 + 1) t1 ∧ j ≤ j1 ∧ j1 ≤ L ∧ byA b L j1 ≠ 32 ∧ byA b L j1 ≠ 10 ∧ Tr p0 g0 p s1 g k m ∧ scF P s0 p s1 rd z ∧ s1.2.1 rd 3 = Int32.ofNat j1 ∧ Tt t0 t1 ∧ tSc t1 10 = Int32.ofNat j1 ∧ tSc t1 9 = Int32.ofNat L ∧ t1.2.2.1 7 = b ∧ s1.1 = s.1 := by
  intro r
  induction r with
  | zero =>
    intro j k m p s g t n n2 hj T hf h3 ht h10 h9 hb
    have e : byA b L j = -1 := byA_m1.mpr (by omega)
    exact ⟨j, s, t, n, n2, rfl, rfl, Nat.le_refl _, by omega, by rw [e]; decide, by rw [e]; decide, T, hf, h3, ht, h10, h9, hb, rfl⟩
  | succ r ih =>
    intro j k m p s g t n n2 hj T hf h3 ht h10 h9 hb
    have hL := hB.2.2.2.2.2.2.2.1
    have hB1 := BR_sc hB hf hz
    by_cases q : byA b L j = 32 ∨ byA b L j = 10
    · obtain ⟨e1, T1⟩ := Tr_I T rd 6 3 (v := Int32.ofNat (j + 1)) hB1.1 rfl rfl
      obtain ⟨j1, s1, t1, n1, n3, x1, x2, x3, x4⟩ := ih (j + 1) k m p (uI s rd 3 (Int32.ofNat (j + 1))) g (uSc t 10 (Int32.ofNat (j + 1))) n n2 (by omega) T1 (scF_I hf (by decide) _) (uI_s _ _ _ _) (Tt_u ht (Or.inl rfl) _) (by rw [tSc_u, if_pos rfl]) (by rw [tSc_u, if_neg (by decide)]; exact h9) hb
      have wpk1 := x_peek (E := E) (g := g) T.1.1 hB1 h3 (by omega)
      have ck := c_cko (g := g) T.1.1 hB1.1
      have yb := y_byA (E := E) h9 hL (j := j) (by omega)
      rw [hb] at yb
      have step : f_X7_scan_b18 E (f_X7_scan_l0 E (n + r + 1)) (p.1 rd) (cH p s g) = f_X7_scan_l0 E (n + r + 1) (p.1 rd) (cH p (uI s rd 3 (Int32.ofNat (j + 1))) g) := by
        unfold f_X7_scan_b18
        rw [c_gI T.1.1 hB1.1 rfl, h3, b1_some, i32_s, e1, b1_some]
      have step2 : t_X6_advance_b26 E (t_X6_advance_l0 E (n2 + r + 1)) t = t_X6_advance_l0 E (n2 + r + 1) (uSc t 10 (Int32.ofNat (j + 1))) := by
        unfold t_X6_advance_b26
        rw [h10, i32_s]
      refine ⟨j1, s1, t1, n1, n3, ?_, ?_, by omega, x4⟩
      · rw [← x1, show n + (r + 1) + 1 = (n + r + 1) + 1 by omega, f_X7_scan_l0, ck, b1_some, wpk1, b2_some]
        by_cases w : byA b L j = 32
        · rw [if_pos w, step]
        · rw [if_neg w, ck, b1_some, wpk1, b2_some, if_pos (q.resolve_left w), step]
      · rw [← x2, show n2 + (r + 1) + 1 = (n2 + r + 1) + 1 by omega, t_X6_advance_l0, h10, yb, b2_some]
        by_cases w : byA b L j = 32
        · rw [if_pos w, step2]
        · rw [if_neg w, h10, yb, b2_some, if_pos (q.resolve_left w), step2]
    · exact ⟨j, s, t, n + (r + 1), n2 + (r + 1), rfl, rfl, Nat.le_refl _, by omega, fun w => q (Or.inl w), fun w => q (Or.inr w), T, hf, h3, ht, h10, h9, hb, rfl⟩
/-! ## numbers -/
theorem n_loop (hz : rd < z) (hB : BR s0 rd L b) {t0 : twS} {st : Nat} : ∀ r j k m (p : cP) (s : cT) (g : zH) (t : twS) (n n2 v : Nat), j + r = L → st ≤ j → Tr p0 g0 p s g k m → scF P s0 p s rd z → s.2.1 rd 3 = Int32.ofNat j → s.2.1 rd 4 = Int32.ofNat st → s.2.1 rd 6 = Int32.ofNat v → v < 10 ^ min (j - st) 6 → Tt t0 t → tSc t 10 = Int32.ofNat j → tSc t 14 = Int32.ofNat st → tSc t 13 = 2 → tSc t 9 = Int32.ofNat L → t.2.2.1 7 = b → t.2.2.2.2 = Int64.ofNat v → ∃ j1 s1 t1 kd v1, f_X7_scanNumber_l5 E (n + r + 1) (p.1 rd) (cH p s g) = some ((), cH p s1 g) ∧ t_X6_advance_l208 E (n2 + r + 1) t = some ((), t1) ∧ j ≤ j1 ∧ j1 ≤ L ∧ (isDg (byA b L j) → j < j1) ∧ Tr p0 g0 p s1 g k m ∧ scF P s0 p s1 rd z ∧ s1.2.1 rd 3 = Int32.ofNat j1 ∧ s1.2.1 rd 4 = Int32.ofNat st ∧ Tt t0 t1 ∧ tSc t1 10 = Int32.ofNat j1 ∧ tSc t1 14 = Int32.ofNat st ∧ (kd = 2 ∨ kd = 4) ∧ s1.2.1 rd 5 = Int32.ofNat kd ∧ tSc t1 13 = Int32.ofNat kd ∧ v1 < 1000000 ∧ s1.2.1 rd 6 = Int32.ofNat v1 ∧ t1.2.2.2.2 = Int64.ofNat v1 := by
  intro r
  induction r with
  | zero =>
    intro j k m p s g t n n2 v hj hst T hf h3 h4 h6 hv ht h10 h14 h13 h9 hb hvl
    have hL := hB.2.2.2.2.2.2.2.1
    have hB1 := BR_sc hB hf hz
    have e : byA b L j = -1 := byA_m1.mpr (by omega)
    have nd : ¬ isDg (byA b L j) := by rw [e]; exact fun q => absurd q.1 (by decide)
    have yb := y_byA (E := E) h9 hL (j := j) (by omega)
    rw [hb] at yb
    have v6 : v < 1000000 := Nat.lt_of_lt_of_le hv (Nat.pow_le_pow_right (by decide) (Nat.min_le_right _ _))
    obtain ⟨e1, T1⟩ := Tr_I T rd 6 5 (v := Int32.ofNat (if j - st ≤ 6 then 2 else 4)) hB1.1 rfl rfl
    refine ⟨j, uI s rd 5 (Int32.ofNat (if j - st ≤ 6 then 2 else 4)), if j - st ≤ 6 then t else uSc t 13 4, if j - st ≤ 6 then 2 else 4, v, ?_, ?_, Nat.le_refl _, by omega, fun q => absurd q nd, T1, scF_I hf (by decide) _, by rw [uI_ne _ _ (Or.inr (by decide))]; exact h3, by rw [uI_ne _ _ (Or.inr (by decide))]; exact h4, ?_, ?_, ?_, ?_, uI_s _ _ _ _, ?_, v6, by rw [uI_ne _ _ (Or.inr (by decide))]; exact h6, ?_⟩
    · rw [f_X7_scanNumber_l5, c_cko T.1.1 hB1.1, b1_some, x_isD T.1.1 hB1 h3 (by omega), b2_some, bi_f nd, if_pos rfl, c_gI T.1.1 hB1.1 rfl, h3, b1_some, c_gI T.1.1 hB1.1 rfl, h4, b1_some, i32_sub hst (by omega)]
      unfold f_X7_scanNumber_b78
      by_cases q : j - st ≤ 6
      · rw [if_pos q] at e1 ⊢
        rw [if_pos (by rw [show (6 : Int32) = Int32.ofNat 6 from rfl, i32_le (by omega) (by decide)]; exact q), show pF (cH p s g) (p.1 rd) 6 5 (.int (2 : Int32)) = _ from e1, b1_some]
      · rw [if_neg q] at e1 ⊢
        rw [if_neg (by rw [show (6 : Int32) = Int32.ofNat 6 from rfl, i32_le (by omega) (by decide)]; exact q), show pF (cH p s g) (p.1 rd) 6 5 (.int (4 : Int32)) = _ from e1, b1_some]
    · rw [t_X6_advance_l208, if_pos h13, h10, yb, b2_some, y_isD, b2_some, bi_f nd, if_pos rfl, y_b305 hst (by omega) h10 h14 h13]
    · split
      · exact ht
      · exact Tt_u ht (Or.inr (Or.inl rfl)) _
    · split
      · exact h10
      · rw [tSc_u, if_neg (by decide)]; exact h10
    · split
      · exact h14
      · rw [tSc_u, if_neg (by decide)]; exact h14
    · split
      · exact Or.inl rfl
      · exact Or.inr rfl
    · split
      · exact h13
      · rw [tSc_u, if_pos rfl]; rfl
    · split
      · exact hvl
      · exact hvl
  | succ r ih =>
    intro j k m p s g t n n2 v hj hst T hf h3 h4 h6 hv ht h10 h14 h13 h9 hb hvl
    have hL := hB.2.2.2.2.2.2.2.1
    have hB1 := BR_sc hB hf hz
    have yb := y_byA (E := E) h9 hL (j := j) (by omega)
    rw [hb] at yb
    have v6 : v < 1000000 := Nat.lt_of_lt_of_le hv (Nat.pow_le_pow_right (by decide) (Nat.min_le_right _ _))
    by_cases nd : isDg (byA b L j)
    · obtain ⟨dg, hd1, hd2⟩ := isDg_n nd
      -- the next state
      have key : ∃ s2 t2 v2, (∀ n, f_X7_scanNumber_l5 E (n + 1) (p.1 rd) (cH p s g) = f_X7_scanNumber_l5 E n (p.1 rd) (cH p s2 g)) ∧ (∀ n, t_X6_advance_l208 E (n + 1) t = t_X6_advance_l208 E n t2) ∧ Tr p0 g0 p s2 g k m ∧ scF P s0 p s2 rd z ∧ s2.2.1 rd 3 = Int32.ofNat (j + 1) ∧ s2.2.1 rd 4 = Int32.ofNat st ∧ s2.2.1 rd 6 = Int32.ofNat v2 ∧ v2 < 10 ^ min (j + 1 - st) 6 ∧ Tt t0 t2 ∧ tSc t2 10 = Int32.ofNat (j + 1) ∧ tSc t2 14 = Int32.ofNat st ∧ tSc t2 13 = 2 ∧ tSc t2 9 = Int32.ofNat L ∧ t2.2.2.1 7 = b ∧ t2.2.2.2.2 = Int64.ofNat v2 := by
        by_cases q : 6 ≤ j - st
        · obtain ⟨e1, T1⟩ := Tr_I T rd 6 3 (v := Int32.ofNat (j + 1)) hB1.1 rfl rfl
          refine ⟨uI s rd 3 (Int32.ofNat (j + 1)), uSc t 10 (Int32.ofNat (j + 1)), v, fun n => ?_, fun n => ?_, T1, scF_I hf (by decide) _, uI_s _ _ _ _, by rw [uI_ne _ _ (Or.inr (by decide))]; exact h4, by rw [uI_ne _ _ (Or.inr (by decide))]; exact h6, by rw [show min (j + 1 - st) 6 = 6 by omega]; exact v6, Tt_u ht (Or.inl rfl) _, by rw [tSc_u, if_pos rfl], by rw [tSc_u, if_neg (by decide)]; exact h14, by rw [tSc_u, if_neg (by decide)]; exact h13, by rw [tSc_u, if_neg (by decide)]; exact h9, hb, hvl⟩
          · rw [f_X7_scanNumber_l5, c_cko T.1.1 hB1.1, b1_some, x_isD T.1.1 hB1 h3 (by omega), b2_some, bi_t nd, if_neg (by decide), c_gI T.1.1 hB1.1 rfl, h3, b1_some, c_gI T.1.1 hB1.1 rfl, h4, b1_some, i32_sub hst (by omega), if_pos (by rw [show (6 : Int32) = Int32.ofNat 6 from rfl, i32_le (by decide) (by omega)]; exact q)]
            unfold f_X7_scanNumber_b45
            rw [c_gI T.1.1 hB1.1 rfl, h3, b1_some, i32_s, e1, b1_some]
          · rw [t_X6_advance_l208, if_pos h13, h10, yb, b2_some, y_isD, b2_some, bi_t nd, if_neg (by decide), h10, h14, i32_sub hst (by omega), if_pos (by rw [show (6 : Int32) = Int32.ofNat 6 from rfl, i32_le (by decide) (by omega)]; exact q)]
            unfold t_X6_advance_b270
            rw [h10, i32_s]
        · have hv' : v < 10 ^ (j - st) := by rw [show min (j - st) 6 = j - st by omega] at hv; exact hv
          have e6 : (10 : Int32) * Int32.ofNat v + Int32.ofNat (48 + dg) - (48 : Int32) = Int32.ofNat (10 * v + dg) := by
            rw [show (10 : Int32) = Int32.ofNat 10 from rfl, show (48 : Int32) = Int32.ofNat 48 from rfl, ← Int32.ofNat_mul, ← Int32.ofNat_add, i32_sub (by omega) (by omega)]
            congr 1
            omega
          have e64 : Int64.ofNat v * (10 : Int64) + (Int32.ofNat (48 + dg)).toInt64 - (48 : Int64) = Int64.ofNat (10 * v + dg) := by
            rw [i32_64 (by omega), show (10 : Int64) = Int64.ofNat 10 from rfl, show (48 : Int64) = Int64.ofNat 48 from rfl, ← Int64.ofNat_mul, ← Int64.ofNat_add, i64_sub (by omega) (by omega)]
            congr 1
            omega
          obtain ⟨e0, T0⟩ := Tr_I T rd 6 6 (v := Int32.ofNat (10 * v + dg)) hB1.1 rfl rfl
          obtain ⟨e1, T1⟩ := Tr_I T0 rd 6 3 (v := Int32.ofNat (j + 1)) hB1.1 rfl rfl
          refine ⟨uI (uI s rd 6 (Int32.ofNat (10 * v + dg))) rd 3 (Int32.ofNat (j + 1)), uSc (uVl t (Int64.ofNat (10 * v + dg))) 10 (Int32.ofNat (j + 1)), 10 * v + dg, fun n => ?_, fun n => ?_, T1, scF_I (scF_I hf (by decide) _) (by decide) _, uI_s _ _ _ _, by rw [uI_ne _ _ (Or.inr (by decide)), uI_ne _ _ (Or.inr (by decide))]; exact h4, by rw [uI_ne _ _ (Or.inr (by decide)), uI_s], ?_, Tt_u (Tt_v ht _) (Or.inl rfl) _, by rw [tSc_u, if_pos rfl], by rw [tSc_u, if_neg (by decide)]; exact h14, by rw [tSc_u, if_neg (by decide)]; exact h13, by rw [tSc_u, if_neg (by decide)]; exact h9, hb, rfl⟩
          · rw [f_X7_scanNumber_l5, c_cko T.1.1 hB1.1, b1_some, x_isD T.1.1 hB1 h3 (by omega), b2_some, bi_t nd, if_neg (by decide), c_gI T.1.1 hB1.1 rfl, h3, b1_some, c_gI T.1.1 hB1.1 rfl, h4, b1_some, i32_sub hst (by omega), if_neg (by rw [show (6 : Int32) = Int32.ofNat 6 from rfl, i32_le (by decide) (by omega)]; exact q), c_gI T.1.1 hB1.1 rfl, h6, b1_some, c_cko T.1.1 hB1.1, b1_some, x_peek T.1.1 hB1 h3 (by omega), b2_some, hd2, e6, e0, b1_some]
            unfold f_X7_scanNumber_b45
            rw [c_gI T0.1.1 hB1.1 rfl, uI_ne _ _ (Or.inr (by decide)), h3, b1_some, i32_s, e1, b1_some]
          · rw [t_X6_advance_l208, if_pos h13, h10, yb, b2_some, y_isD, b2_some, bi_t nd, if_neg (by decide), h10, h14, i32_sub hst (by omega), if_neg (by rw [show (6 : Int32) = Int32.ofNat 6 from rfl, i32_le (by decide) (by omega)]; exact q), yb, b2_some, hd2, hvl, e64]
            unfold t_X6_advance_b270
            rw [tSc_v, h10, i32_s]
          · rw [show min (j + 1 - st) 6 = (j - st) + 1 by omega, Nat.pow_succ]
            omega
      obtain ⟨s2, t2, v2, k1, k2, k3, k4, k5, k6, k7, k8, k9, k10, k11, k12, k13, k14, k15⟩ := key
      obtain ⟨j1, s1, t1, kd, v1, x1, x2, x3, x4, x5, x6⟩ := ih (j + 1) k m p s2 g t2 n n2 v2 (by omega) (by omega) k3 k4 k5 k6 k7 k8 k9 k10 k11 k12 k13 k14 k15
      refine ⟨j1, s1, t1, kd, v1, ?_, ?_, by omega, x4, fun _ => by omega, x6⟩
      · rw [show n + (r + 1) + 1 = (n + r + 1) + 1 by omega, k1, x1]
      · rw [show n2 + (r + 1) + 1 = (n2 + r + 1) + 1 by omega, k2, x2]
    · obtain ⟨e1, T1⟩ := Tr_I T rd 6 5 (v := Int32.ofNat (if j - st ≤ 6 then 2 else 4)) hB1.1 rfl rfl
      refine ⟨j, uI s rd 5 (Int32.ofNat (if j - st ≤ 6 then 2 else 4)), if j - st ≤ 6 then t else uSc t 13 4, if j - st ≤ 6 then 2 else 4, v, ?_, ?_, Nat.le_refl _, by omega, fun q => absurd q nd, T1, scF_I hf (by decide) _, by rw [uI_ne _ _ (Or.inr (by decide))]; exact h3, by rw [uI_ne _ _ (Or.inr (by decide))]; exact h4, ?_, ?_, ?_, ?_, uI_s _ _ _ _, ?_, v6, by rw [uI_ne _ _ (Or.inr (by decide))]; exact h6, ?_⟩
      · rw [f_X7_scanNumber_l5, c_cko T.1.1 hB1.1, b1_some, x_isD T.1.1 hB1 h3 (by omega), b2_some, bi_f nd, if_pos rfl, c_gI T.1.1 hB1.1 rfl, h3, b1_some, c_gI T.1.1 hB1.1 rfl, h4, b1_some, i32_sub hst (by omega)]
        unfold f_X7_scanNumber_b78
        by_cases q : j - st ≤ 6
        · rw [if_pos q] at e1 ⊢
          rw [if_pos (by rw [show (6 : Int32) = Int32.ofNat 6 from rfl, i32_le (by omega) (by decide)]; exact q), show pF (cH p s g) (p.1 rd) 6 5 (.int (2 : Int32)) = _ from e1, b1_some]
        · rw [if_neg q] at e1 ⊢
          rw [if_neg (by rw [show (6 : Int32) = Int32.ofNat 6 from rfl, i32_le (by omega) (by decide)]; exact q), show pF (cH p s g) (p.1 rd) 6 5 (.int (4 : Int32)) = _ from e1, b1_some]
      · rw [t_X6_advance_l208, if_pos h13, h10, yb, b2_some, y_isD, b2_some, bi_f nd, if_pos rfl, y_b305 hst (by omega) h10 h14 h13]
      · split
        · exact ht
        · exact Tt_u ht (Or.inr (Or.inl rfl)) _
      · split
        · exact h10
        · rw [tSc_u, if_neg (by decide)]; exact h10
      · split
        · exact h14
        · rw [tSc_u, if_neg (by decide)]; exact h14
      · split
        · exact Or.inl rfl
        · exact Or.inr rfl
      · split
        · exact h13
        · rw [tSc_u, if_pos rfl]; rfl
      · split
        · exact hvl
        · exact hvl
end LP
