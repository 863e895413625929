/-! a franchisee copied -/
set_option maxRecDepth 100000
theorem okP_t {p : cP} {s s1 : cT} (hp : okP p s) (h0 : s1.1 = s.1) : okP p s1 := ⟨fun c hc => hp.1 c (by rw [← h0]; exact hc), hp.2⟩
section LK
variable {p : cP} {s : cT} {g : zH}
def likS (s : cT) (D D0 : Nat) : cT := uL (uI (uI (uI (uI (uI (uI s D 0 (s.2.1 D0 0)) D 1 (s.2.1 D0 1)) D 2 (s.2.1 D0 2)) D 3 (s.2.1 D0 3)) D 4 (s.2.1 D0 4)) D 5 (s.2.1 D0 5)) D 6 (s.2.2.1 D0 6)
theorem K_like (E : zE) (hp : okP p s) {D D0 : Nat} (hD : s.1 D = (1, 11)) (hD0 : s.1 D0 = (1, 11)) (hn : D0 ≠ D) : f_X12_like E (p.1 D) (p.1 D0) (cH p s g) = some ((), cH p (likS s D D0) g) := by
  unfold f_X12_like f_X12_like_b0 likS
  have e0 : gI (cH p s g) (p.1 D0) 11 0 = some (s.2.1 D0 0) := (c_gI (s := s) (g := g) (k := 0) (okP_t hp rfl) hD0 rfl).trans (congrArg some (by simp only [uI_app, uL_app, uI_L, hn, false_and, if_false]))
  have w0 : pF (cH p s g) (p.1 D) 11 0 (.int (s.2.1 D0 0)) = some (cH p (uI s D 0 (s.2.1 D0 0)) g) := c_pI (s := s) (g := g) (k := 0) (okP_t hp rfl) hD rfl
  have e1 : gI (cH p (uI s D 0 (s.2.1 D0 0)) g) (p.1 D0) 11 1 = some (s.2.1 D0 1) := (c_gI (s := (uI s D 0 (s.2.1 D0 0))) (g := g) (k := 1) (okP_t hp rfl) hD0 rfl).trans (congrArg some (by simp only [uI_app, uL_app, uI_L, hn, false_and, if_false]))
  have w1 : pF (cH p (uI s D 0 (s.2.1 D0 0)) g) (p.1 D) 11 1 (.int (s.2.1 D0 1)) = some (cH p (uI (uI s D 0 (s.2.1 D0 0)) D 1 (s.2.1 D0 1)) g) := c_pI (s := (uI s D 0 (s.2.1 D0 0))) (g := g) (k := 1) (okP_t hp rfl) hD rfl
  have e2 : gI (cH p (uI (uI s D 0 (s.2.1 D0 0)) D 1 (s.2.1 D0 1)) g) (p.1 D0) 11 2 = some (s.2.1 D0 2) := (c_gI (s := (uI (uI s D 0 (s.2.1 D0 0)) D 1 (s.2.1 D0 1))) (g := g) (k := 2) (okP_t hp rfl) hD0 rfl).trans (congrArg some (by simp only [uI_app, uL_app, uI_L, hn, false_and, if_false]))
  have w2 : pF (cH p (uI (uI s D 0 (s.2.1 D0 0)) D 1 (s.2.1 D0 1)) g) (p.1 D) 11 2 (.int (s.2.1 D0 2)) = some (cH p (uI (uI (uI s D 0 (s.2.1 D0 0)) D 1 (s.2.1 D0 1)) D 2 (s.2.1 D0 2)) g) := c_pI (s := (uI (uI s D 0 (s.2.1 D0 0)) D 1 (s.2.1 D0 1))) (g := g) (k := 2) (okP_t hp rfl) hD rfl
  have e3 : gI (cH p (uI (uI (uI s D 0 (s.2.1 D0 0)) D 1 (s.2.1 D0 1)) D 2 (s.2.1 D0 2)) g) (p.1 D0) 11 3 = some (s.2.1 D0 3) := (c_gI (s := (uI (uI (uI s D 0 (s.2.1 D0 0)) D 1 (s.2.1 D0 1)) D 2 (s.2.1 D0 2))) (g := g) (k := 3) (okP_t hp rfl) hD0 rfl).trans (congrArg some (by simp only [uI_app, uL_app, uI_L, hn, false_and, if_false]))
  have w3 : pF (cH p (uI (uI (uI s D 0 (s.2.1 D0 0)) D 1 (s.2.1 D0 1)) D 2 (s.2.1 D0 2)) g) (p.1 D) 11 3 (.int (s.2.1 D0 3)) = some (cH p (uI (uI (uI (uI s D 0 (s.2.1 D0 0)) D 1 (s.2.1 D0 1)) D 2 (s.2.1 D0 2)) D 3 (s.2.1 D0 3)) g) := c_pI (s := (uI (uI (uI s D 0 (s.2.1 D0 0)) D 1 (s.2.1 D0 1)) D 2 (s.2.1 D0 2))) (g := g) (k := 3) (okP_t hp rfl) hD rfl
  have e4 : gI (cH p (uI (uI (uI (uI s D 0 (s.2.1 D0 0)) D 1 (s.2.1 D0 1)) D 2 (s.2.1 D0 2)) D 3 (s.2.1 D0 3)) g) (p.1 D0) 11 4 = some (s.2.1 D0 4) := (c_gI (s := (uI (uI (uI (uI s D 0 (s.2.1 D0 0)) D 1 (s.2.1 D0 1)) D 2 (s.2.1 D0 2)) D 3 (s.2.1 D0 3))) (g := g) (k := 4) (okP_t hp rfl) hD0 rfl).trans (congrArg some (by simp only [uI_app, uL_app, uI_L, hn, false_and, if_false]))
  have w4 : pF (cH p (uI (uI (uI (uI s D 0 (s.2.1 D0 0)) D 1 (s.2.1 D0 1)) D 2 (s.2.1 D0 2)) D 3 (s.2.1 D0 3)) g) (p.1 D) 11 4 (.int (s.2.1 D0 4)) = some (cH p (uI (uI (uI (uI (uI s D 0 (s.2.1 D0 0)) D 1 (s.2.1 D0 1)) D 2 (s.2.1 D0 2)) D 3 (s.2.1 D0 3)) D 4 (s.2.1 D0 4)) g) := c_pI (s := (uI (uI (uI (uI s D 0 (s.2.1 D0 0)) D 1 (s.2.1 D0 1)) D 2 (s.2.1 D0 2)) D 3 (s.2.1 D0 3))) (g := g) (k := 4) (okP_t hp rfl) hD rfl
  have e5 : gI (cH p (uI (uI (uI (uI (uI s D 0 (s.2.1 D0 0)) D 1 (s.2.1 D0 1)) D 2 (s.2.1 D0 2)) D 3 (s.2.1 D0 3)) D 4 (s.2.1 D0 4)) g) (p.1 D0) 11 5 = some (s.2.1 D0 5) := (c_gI (s := (uI (uI (uI (uI (uI s D 0 (s.2.1 D0 0)) D 1 (s.2.1 D0 1)) D 2 (s.2.1 D0 2)) D 3 (s.2.1 D0 3)) D 4 (s.2.1 D0 4))) (g := g) (k := 5) (okP_t hp rfl) hD0 rfl).trans (congrArg some (by simp only [uI_app, uL_app, uI_L, hn, false_and, if_false]))
  have w5 : pF (cH p (uI (uI (uI (uI (uI s D 0 (s.2.1 D0 0)) D 1 (s.2.1 D0 1)) D 2 (s.2.1 D0 2)) D 3 (s.2.1 D0 3)) D 4 (s.2.1 D0 4)) g) (p.1 D) 11 5 (.int (s.2.1 D0 5)) = some (cH p (uI (uI (uI (uI (uI (uI s D 0 (s.2.1 D0 0)) D 1 (s.2.1 D0 1)) D 2 (s.2.1 D0 2)) D 3 (s.2.1 D0 3)) D 4 (s.2.1 D0 4)) D 5 (s.2.1 D0 5)) g) := c_pI (s := (uI (uI (uI (uI (uI s D 0 (s.2.1 D0 0)) D 1 (s.2.1 D0 1)) D 2 (s.2.1 D0 2)) D 3 (s.2.1 D0 3)) D 4 (s.2.1 D0 4))) (g := g) (k := 5) (okP_t hp rfl) hD rfl
  have e6 : gL (cH p (uI (uI (uI (uI (uI (uI s D 0 (s.2.1 D0 0)) D 1 (s.2.1 D0 1)) D 2 (s.2.1 D0 2)) D 3 (s.2.1 D0 3)) D 4 (s.2.1 D0 4)) D 5 (s.2.1 D0 5)) g) (p.1 D0) 11 6 = some (s.2.2.1 D0 6) := (c_gL (s := (uI (uI (uI (uI (uI (uI s D 0 (s.2.1 D0 0)) D 1 (s.2.1 D0 1)) D 2 (s.2.1 D0 2)) D 3 (s.2.1 D0 3)) D 4 (s.2.1 D0 4)) D 5 (s.2.1 D0 5))) (g := g) (k := 6) (okP_t hp rfl) hD0 rfl).trans (congrArg some (by simp only [uI_app, uL_app, uI_L, hn, false_and, if_false]))
  have w6 : pF (cH p (uI (uI (uI (uI (uI (uI s D 0 (s.2.1 D0 0)) D 1 (s.2.1 D0 1)) D 2 (s.2.1 D0 2)) D 3 (s.2.1 D0 3)) D 4 (s.2.1 D0 4)) D 5 (s.2.1 D0 5)) g) (p.1 D) 11 6 (.long (s.2.2.1 D0 6)) = some (cH p (uL (uI (uI (uI (uI (uI (uI s D 0 (s.2.1 D0 0)) D 1 (s.2.1 D0 1)) D 2 (s.2.1 D0 2)) D 3 (s.2.1 D0 3)) D 4 (s.2.1 D0 4)) D 5 (s.2.1 D0 5)) D 6 (s.2.2.1 D0 6)) g) := c_pL (s := (uI (uI (uI (uI (uI (uI s D 0 (s.2.1 D0 0)) D 1 (s.2.1 D0 1)) D 2 (s.2.1 D0 2)) D 3 (s.2.1 D0 3)) D 4 (s.2.1 D0 4)) D 5 (s.2.1 D0 5))) (g := g) (k := 6) (okP_t hp rfl) hD rfl
  rw [e0, b1_some, w0, b1_some, e1, b1_some, w1, b1_some, e2, b1_some, w2, b1_some, e3, b1_some, w3, b1_some, e4, b1_some, w4, b1_some, e5, b1_some, w5, b1_some, e6, b1_some, w6, b1_some]
theorem likS_S (s : cT) (D D0 : Nat) : (likS s D D0).1 = s.1 := rfl
theorem likS_R (s : cT) (D D0 : Nat) : (likS s D D0).2.2.2 = s.2.2.2 := rfl
theorem likS_o (s : cT) {D D0 d : Nat} (h : d ≠ D) : (likS s D D0).2.1 d = s.2.1 d ∧ (likS s D D0).2.2.1 d = s.2.2.1 d := by
  unfold likS
  refine ⟨funext fun k => ?_, funext fun k => ?_⟩ <;> simp only [uI_app, uL_app, uI_L, uL_I, h, false_and, if_false]
theorem likS_I (s : cT) (D D0 : Nat) {k : Nat} (hk : k < 6) : (likS s D D0).2.1 D k = s.2.1 D0 k := by
  unfold likS
  simp only [uI_app, uL_I, true_and]
  rcases (show k = 0 ∨ k = 1 ∨ k = 2 ∨ k = 3 ∨ k = 4 ∨ k = 5 by omega) with rfl | rfl | rfl | rfl | rfl | rfl <;> rfl
theorem likS_6 (s : cT) (D D0 : Nat) : (likS s D D0).2.2.1 D 6 = s.2.2.1 D0 6 := by
  unfold likS
  rw [uL_s]
end LK
section MK
variable {p : cP} {s : cT} {g : zH} {o u i mo : Nat}
/-- the franchisee i under o is that under u, up to month mo *(tables s1; before: s)* -/
def frC (s s1 : cT) (o u i mo : Nat) : Prop := (∀ k, 3 ≤ k → k < 8 → s1.2.1 (o + 130 + i) k = s.2.1 (u + 130 + i) k) ∧ (∀ k, 8 ≤ k → k < 11 → s1.2.2.1 (o + 130 + i) k = s.2.2.1 (u + 130 + i) k) ∧ (∀ k, k < 6 → s1.2.1 (o + 140 + i) k = s.2.1 (u + 140 + i) k) ∧ s1.2.2.1 (o + 140 + i) 6 = s.2.2.1 (u + 140 + i) 6 ∧ (∀ m, m < mo → s1.2.2.2 (o + 150 + i) m = s.2.2.2 (u + 150 + i) m) ∧ ∀ m, m < mo → s1.2.2.1 (o + 160 + i) m = s.2.2.1 (u + 160 + i) m
theorem K_X11_copy (E : zE) (h : Kp p s g) (ho : o + 200 ≤ XT) (hu : u + 200 ≤ XT) (hou : u + 200 ≤ o ∨ o + 200 ≤ u) (hi : i < 8) (hm : mo ≤ 60) (hF : iFr s u i) (hz : ∀ d, d = o + 130 + i ∨ d = o + 140 + i ∨ d = o + 150 + i ∨ d = o + 160 + i → (s.1 d).1 = 0) (hrw : ∀ m, m < mo → ∃ e, s.2.2.2 (u + 150 + i) m = some e ∧ s.1 e = (3, 7)) (hr : rm g 4 140) : ∃ p1 s1 g1, f_X11_copy E (p.1 (u + 130 + i)) (Int32.ofNat mo) (cH p s g) = some (p1.1 (o + 130 + i), cH p1 s1 g1) ∧ Tr p g p1 s1 g1 4 140 ∧ iFr s1 o i ∧ frC s s1 o u i mo ∧ ∀ d, d ≠ o + 130 + i → d ≠ o + 140 + i → d ≠ o + 150 + i → d ≠ o + 160 + i → p1.1 d = p.1 d ∧ s1.1 d = s.1 d ∧ s1.2.1 d = s.2.1 d ∧ s1.2.2.1 d = s.2.2.1 d ∧ s1.2.2.2 d = s.2.2.2 d := by
  obtain ⟨v1, v2, v3, v4, v5, v6, v7⟩ := hF
  obtain ⟨e1, T1⟩ := Tr_new (fs := [.null, .null, .null, .int 0, .int 0, .int 0, .int 0, .int 0, .long 0, .long 0, .long 0]) (Tr_0 h) hr (o + 130 + i) 10 11 (by decide) (by decide) (hz _ (Or.inl rfl)) (by omega) rfl
  generalize hp1 : pA p (o + 130 + i) g.2.1 = p1 at e1 T1
  generalize hs1 : sNw s (o + 130 + i) (1, 10) = s1 at e1 T1
  generalize hg1 : zadd g (true, .inr (10, [.null, .null, .null, .int 0, .int 0, .int 0, .int 0, .int 0, .long 0, .long 0, .long 0])) 11 = g1 at e1 T1
  have f1 : ∀ d, d ≠ o + 130 + i → p1.1 d = p.1 d ∧ s1.1 d = s.1 d ∧ s1.2.1 d = s.2.1 d ∧ s1.2.2.1 d = s.2.2.1 d ∧ s1.2.2.2 d = s.2.2.2 d := fun d hd => by
    rw [← hp1, ← hs1]
    exact ⟨cu_ne p.1 _ hd, sNw_o s hd _⟩
  have q1 : p1.1 (o + 130 + i) = g.2.1 := by rw [← hp1]; exact cu_same _ _ _
  have c1 : s1.1 (o + 130 + i) = (1, 10) := by rw [← hs1]; exact cu_same _ _ _
  have a130 := f1 (u + 130 + i) (by omega)
  obtain ⟨p2, s2, g2, e2, T2, i2, ⟨j3, j4, j5, j6, j7, jL⟩, ⟨k1, k2, k3, k4⟩, q2, f2⟩ := K_X11_init E T1.1 ho hi c1 (by rw [(f1 _ (by omega)).2.1]; exact hz _ (by omega)) (by rw [(f1 _ (by omega)).2.1]; exact hz _ (by omega)) (by rw [(f1 _ (by omega)).2.1]; exact hz _ (by omega)) (Tr_rm T1 hr (by decide) (by decide)) (s.2.1 (u + 130 + i) 3) (s.2.1 (u + 130 + i) 4)
  have T2 := Tr_tr T1 T2
  obtain ⟨w1, w2, w3, w4, w5, w6, w7⟩ := i2
  have g2f : ∀ d, d ≠ o + 130 + i → d ≠ o + 140 + i → d ≠ o + 150 + i → d ≠ o + 160 + i → p2.1 d = p.1 d ∧ s2.1 d = s.1 d ∧ s2.2.1 d = s.2.1 d ∧ s2.2.2.1 d = s.2.2.1 d ∧ s2.2.2.2 d = s.2.2.2 d := fun d d1 d2 d3 d4 => by
    have x := f2 d d1 d2 d3 d4
    have y := f1 d d1
    exact ⟨x.1.trans y.1, x.2.1.trans y.2.1, x.2.2.1.trans y.2.2.1, x.2.2.2.1.trans y.2.2.2.1, x.2.2.2.2.trans y.2.2.2.2⟩
  have b130 := g2f (u + 130 + i) (by omega) (by omega) (by omega) (by omega)
  have b140 := g2f (u + 140 + i) (by omega) (by omega) (by omega) (by omega)
  have b150 := g2f (u + 150 + i) (by omega) (by omega) (by omega) (by omega)
  have b160 := g2f (u + 160 + i) (by omega) (by omega) (by omega) (by omega)
  have qC : p2.1 (o + 130 + i) = g.2.1 := q2.trans q1
  have e3 := K_like (p := p2) (s := s2) (g := g2) E T2.1.1 (D := o + 140 + i) (D0 := u + 140 + i) w5 (b140.2.1.trans v5) (by omega)
  generalize hs3 : likS s2 (o + 140 + i) (u + 140 + i) = s3 at e3
  have S3 : s3.1 = s2.1 := by rw [← hs3]; rfl
  have R3 : s3.2.2.2 = s2.2.2.2 := by rw [← hs3]; rfl
  have O3 : ∀ d, d ≠ o + 140 + i → s3.2.1 d = s2.2.1 d ∧ s3.2.2.1 d = s2.2.2.1 d := fun d hd => by rw [← hs3]; exact likS_o s2 hd
  have h3 : Kp p2 s3 g2 := Kp_t T2.1 S3 R3
  have rws : ∀ m, m < mo → ∃ e k, s3.2.2.2 (u + 150 + i) m = some e ∧ s3.1 e = (3, k) := fun m hmm => by
    obtain ⟨e, he, hs⟩ := hrw m hmm
    refine ⟨e, 7, by rw [R3, b150.2.2.2.2]; exact he, ?_⟩
    rw [S3, (g2f e (fun q => by have z := hz _ (Or.inl rfl); rw [← q, hs] at z; cases z) (fun q => by have z := hz _ (Or.inr (Or.inl rfl)); rw [← q, hs] at z; cases z) (fun q => by have z := hz _ (Or.inr (Or.inr (Or.inl rfl))); rw [← q, hs] at z; cases z) (fun q => by have z := hz _ (Or.inr (Or.inr (Or.inr rfl))); rw [← q, hs] at z; cases z)).2.1]
    exact hs
  have e4 := c_cpR (p := p2) (s := s3) (g := g2) h3.1 (c := u + 150 + i) (d := o + 150 + i) (n0 := 60) (n1 := 60) (n := mo) (by rw [S3]; exact b150.2.1.trans v6) (by rw [S3]; exact w6) hm hm (by omega) rws
  generalize hs4 : uT s3 (o + 150 + i) (fun j => if j < mo then s3.2.2.2 (u + 150 + i) j else s3.2.2.2 (o + 150 + i) j) = s4 at e4
  have S4 : s4.1 = s2.1 := by rw [← hs4]; exact S3
  have h4 : Kp p2 s4 g2 := by
    rw [← hs4]
    refine Kp_uT h3 (by omega) (fun k e he => ?_)
    have he : (if k < mo then s3.2.2.2 (u + 150 + i) k else s3.2.2.2 (o + 150 + i) k) = some e := he
    by_cases w : k < mo
    · rw [if_pos w] at he
      obtain ⟨e9, m9, x1, x2⟩ := rws k w
      rw [he] at x1
      cases x1
      rw [x2]
      exact ⟨Or.inl (Nat.succ_ne_zero _), (show (3 : Nat) ≠ 6 by decide)⟩
    · rw [if_neg w, R3, k3] at he; cases he
  have e5 := c_cpL (p := p2) (s := s4) (g := g2) h4.1 (c := u + 160 + i) (d := o + 160 + i) (n0 := 60) (n1 := 60) (n := mo) (by rw [S4]; exact b160.2.1.trans v7) (by rw [S4]; exact w7) hm hm (by omega)
  generalize hs5 : uF s4 (o + 160 + i) (fun j => if j < mo then s4.2.2.1 (u + 160 + i) j else s4.2.2.1 (o + 160 + i) j) = s5 at e5
  have S5 : s5.1 = s2.1 := by rw [← hs5]; exact S4
  have h5 : Kp p2 s5 g2 := by rw [← hs5]; exact Kp_t h4 rfl rfl
  have I5 : s5.2.1 = s3.2.1 := by rw [← hs5, ← hs4]; rfl
  have R5 : ∀ d k, s5.2.2.2 d k = if d = o + 150 + i then (if k < mo then s3.2.2.2 (u + 150 + i) k else s3.2.2.2 (o + 150 + i) k) else s3.2.2.2 d k := fun d k => by
    rw [← hs5, ← hs4]
    exact uT_app s3 _ _ d k
  have L5 : ∀ d k, s5.2.2.1 d k = if d = o + 160 + i then (if k < mo then s3.2.2.1 (u + 160 + i) k else s3.2.2.1 (o + 160 + i) k) else s3.2.2.1 d k := fun d k => by
    rw [← hs5, uF_app, ← hs4]
    rfl
  have I130 : s5.2.1 (u + 130 + i) = s.2.1 (u + 130 + i) := by rw [I5, (O3 _ (by omega)).1, b130.2.2.1]
  have L130 : s5.2.2.1 (u + 130 + i) = s.2.2.1 (u + 130 + i) := funext fun k => by rw [L5, if_neg (by omega), (O3 _ (by omega)).2, b130.2.2.2.1]
  have x5 : gI (cH p2 s5 g2) (p2.1 (u + 130 + i)) 10 5 = some (s.2.1 (u + 130 + i) 5) := (c_gI (s := s5) (g := g2) (k := 5) (okP_t h5.1 rfl) (by show s5.1 _ = _; rw [S5]; exact b130.2.1.trans v1) rfl).trans (congrArg some (by simp only [uI_app, uL_app, uI_L, uL_I, show (u + 130 + i = o + 130 + i) = False from eq_false (by omega), false_and, if_false, I130]))
  have y5 : pF (cH p2 s5 g2) (p2.1 (o + 130 + i)) 10 5 (.int (s.2.1 (u + 130 + i) 5)) = some (cH p2 (uI s5 (o + 130 + i) 5 (s.2.1 (u + 130 + i) 5)) g2) := c_pI (s := s5) (g := g2) (k := 5) (okP_t h5.1 rfl) (by show s5.1 _ = _; rw [S5]; exact w1) rfl
  have x6 : gI (cH p2 (uI s5 (o + 130 + i) 5 (s.2.1 (u + 130 + i) 5)) g2) (p2.1 (u + 130 + i)) 10 6 = some (s.2.1 (u + 130 + i) 6) := (c_gI (s := (uI s5 (o + 130 + i) 5 (s.2.1 (u + 130 + i) 5))) (g := g2) (k := 6) (okP_t h5.1 rfl) (by show s5.1 _ = _; rw [S5]; exact b130.2.1.trans v1) rfl).trans (congrArg some (by simp only [uI_app, uL_app, uI_L, uL_I, show (u + 130 + i = o + 130 + i) = False from eq_false (by omega), false_and, if_false, I130]))
  have y6 : pF (cH p2 (uI s5 (o + 130 + i) 5 (s.2.1 (u + 130 + i) 5)) g2) (p2.1 (o + 130 + i)) 10 6 (.int (s.2.1 (u + 130 + i) 6)) = some (cH p2 (uI (uI s5 (o + 130 + i) 5 (s.2.1 (u + 130 + i) 5)) (o + 130 + i) 6 (s.2.1 (u + 130 + i) 6)) g2) := c_pI (s := (uI s5 (o + 130 + i) 5 (s.2.1 (u + 130 + i) 5))) (g := g2) (k := 6) (okP_t h5.1 rfl) (by show s5.1 _ = _; rw [S5]; exact w1) rfl
  have x7 : gI (cH p2 (uI (uI s5 (o + 130 + i) 5 (s.2.1 (u + 130 + i) 5)) (o + 130 + i) 6 (s.2.1 (u + 130 + i) 6)) g2) (p2.1 (u + 130 + i)) 10 7 = some (s.2.1 (u + 130 + i) 7) := (c_gI (s := (uI (uI s5 (o + 130 + i) 5 (s.2.1 (u + 130 + i) 5)) (o + 130 + i) 6 (s.2.1 (u + 130 + i) 6))) (g := g2) (k := 7) (okP_t h5.1 rfl) (by show s5.1 _ = _; rw [S5]; exact b130.2.1.trans v1) rfl).trans (congrArg some (by simp only [uI_app, uL_app, uI_L, uL_I, show (u + 130 + i = o + 130 + i) = False from eq_false (by omega), false_and, if_false, I130]))
  have y7 : pF (cH p2 (uI (uI s5 (o + 130 + i) 5 (s.2.1 (u + 130 + i) 5)) (o + 130 + i) 6 (s.2.1 (u + 130 + i) 6)) g2) (p2.1 (o + 130 + i)) 10 7 (.int (s.2.1 (u + 130 + i) 7)) = some (cH p2 (uI (uI (uI s5 (o + 130 + i) 5 (s.2.1 (u + 130 + i) 5)) (o + 130 + i) 6 (s.2.1 (u + 130 + i) 6)) (o + 130 + i) 7 (s.2.1 (u + 130 + i) 7)) g2) := c_pI (s := (uI (uI s5 (o + 130 + i) 5 (s.2.1 (u + 130 + i) 5)) (o + 130 + i) 6 (s.2.1 (u + 130 + i) 6))) (g := g2) (k := 7) (okP_t h5.1 rfl) (by show s5.1 _ = _; rw [S5]; exact w1) rfl
  have x8 : gL (cH p2 (uI (uI (uI s5 (o + 130 + i) 5 (s.2.1 (u + 130 + i) 5)) (o + 130 + i) 6 (s.2.1 (u + 130 + i) 6)) (o + 130 + i) 7 (s.2.1 (u + 130 + i) 7)) g2) (p2.1 (u + 130 + i)) 10 8 = some (s.2.2.1 (u + 130 + i) 8) := (c_gL (s := (uI (uI (uI s5 (o + 130 + i) 5 (s.2.1 (u + 130 + i) 5)) (o + 130 + i) 6 (s.2.1 (u + 130 + i) 6)) (o + 130 + i) 7 (s.2.1 (u + 130 + i) 7))) (g := g2) (k := 8) (okP_t h5.1 rfl) (by show s5.1 _ = _; rw [S5]; exact b130.2.1.trans v1) rfl).trans (congrArg some (by simp only [uI_app, uL_app, uI_L, uL_I, show (u + 130 + i = o + 130 + i) = False from eq_false (by omega), false_and, if_false, L130]))
  have y8 : pF (cH p2 (uI (uI (uI s5 (o + 130 + i) 5 (s.2.1 (u + 130 + i) 5)) (o + 130 + i) 6 (s.2.1 (u + 130 + i) 6)) (o + 130 + i) 7 (s.2.1 (u + 130 + i) 7)) g2) (p2.1 (o + 130 + i)) 10 8 (.long (s.2.2.1 (u + 130 + i) 8)) = some (cH p2 (uL (uI (uI (uI s5 (o + 130 + i) 5 (s.2.1 (u + 130 + i) 5)) (o + 130 + i) 6 (s.2.1 (u + 130 + i) 6)) (o + 130 + i) 7 (s.2.1 (u + 130 + i) 7)) (o + 130 + i) 8 (s.2.2.1 (u + 130 + i) 8)) g2) := c_pL (s := (uI (uI (uI s5 (o + 130 + i) 5 (s.2.1 (u + 130 + i) 5)) (o + 130 + i) 6 (s.2.1 (u + 130 + i) 6)) (o + 130 + i) 7 (s.2.1 (u + 130 + i) 7))) (g := g2) (k := 8) (okP_t h5.1 rfl) (by show s5.1 _ = _; rw [S5]; exact w1) rfl
  have x9 : gL (cH p2 (uL (uI (uI (uI s5 (o + 130 + i) 5 (s.2.1 (u + 130 + i) 5)) (o + 130 + i) 6 (s.2.1 (u + 130 + i) 6)) (o + 130 + i) 7 (s.2.1 (u + 130 + i) 7)) (o + 130 + i) 8 (s.2.2.1 (u + 130 + i) 8)) g2) (p2.1 (u + 130 + i)) 10 9 = some (s.2.2.1 (u + 130 + i) 9) := (c_gL (s := (uL (uI (uI (uI s5 (o + 130 + i) 5 (s.2.1 (u + 130 + i) 5)) (o + 130 + i) 6 (s.2.1 (u + 130 + i) 6)) (o + 130 + i) 7 (s.2.1 (u + 130 + i) 7)) (o + 130 + i) 8 (s.2.2.1 (u + 130 + i) 8))) (g := g2) (k := 9) (okP_t h5.1 rfl) (by show s5.1 _ = _; rw [S5]; exact b130.2.1.trans v1) rfl).trans (congrArg some (by simp only [uI_app, uL_app, uI_L, uL_I, show (u + 130 + i = o + 130 + i) = False from eq_false (by omega), false_and, if_false, L130]))
  have y9 : pF (cH p2 (uL (uI (uI (uI s5 (o + 130 + i) 5 (s.2.1 (u + 130 + i) 5)) (o + 130 + i) 6 (s.2.1 (u + 130 + i) 6)) (o + 130 + i) 7 (s.2.1 (u + 130 + i) 7)) (o + 130 + i) 8 (s.2.2.1 (u + 130 + i) 8)) g2) (p2.1 (o + 130 + i)) 10 9 (.long (s.2.2.1 (u + 130 + i) 9)) = some (cH p2 (uL (uL (uI (uI (uI s5 (o + 130 + i) 5 (s.2.1 (u + 130 + i) 5)) (o + 130 + i) 6 (s.2.1 (u + 130 + i) 6)) (o + 130 + i) 7 (s.2.1 (u + 130 + i) 7)) (o + 130 + i) 8 (s.2.2.1 (u + 130 + i) 8)) (o + 130 + i) 9 (s.2.2.1 (u + 130 + i) 9)) g2) := c_pL (s := (uL (uI (uI (uI s5 (o + 130 + i) 5 (s.2.1 (u + 130 + i) 5)) (o + 130 + i) 6 (s.2.1 (u + 130 + i) 6)) (o + 130 + i) 7 (s.2.1 (u + 130 + i) 7)) (o + 130 + i) 8 (s.2.2.1 (u + 130 + i) 8))) (g := g2) (k := 9) (okP_t h5.1 rfl) (by show s5.1 _ = _; rw [S5]; exact w1) rfl
  have x10 : gL (cH p2 (uL (uL (uI (uI (uI s5 (o + 130 + i) 5 (s.2.1 (u + 130 + i) 5)) (o + 130 + i) 6 (s.2.1 (u + 130 + i) 6)) (o + 130 + i) 7 (s.2.1 (u + 130 + i) 7)) (o + 130 + i) 8 (s.2.2.1 (u + 130 + i) 8)) (o + 130 + i) 9 (s.2.2.1 (u + 130 + i) 9)) g2) (p2.1 (u + 130 + i)) 10 10 = some (s.2.2.1 (u + 130 + i) 10) := (c_gL (s := (uL (uL (uI (uI (uI s5 (o + 130 + i) 5 (s.2.1 (u + 130 + i) 5)) (o + 130 + i) 6 (s.2.1 (u + 130 + i) 6)) (o + 130 + i) 7 (s.2.1 (u + 130 + i) 7)) (o + 130 + i) 8 (s.2.2.1 (u + 130 + i) 8)) (o + 130 + i) 9 (s.2.2.1 (u + 130 + i) 9))) (g := g2) (k := 10) (okP_t h5.1 rfl) (by show s5.1 _ = _; rw [S5]; exact b130.2.1.trans v1) rfl).trans (congrArg some (by simp only [uI_app, uL_app, uI_L, uL_I, show (u + 130 + i = o + 130 + i) = False from eq_false (by omega), false_and, if_false, L130]))
  have y10 : pF (cH p2 (uL (uL (uI (uI (uI s5 (o + 130 + i) 5 (s.2.1 (u + 130 + i) 5)) (o + 130 + i) 6 (s.2.1 (u + 130 + i) 6)) (o + 130 + i) 7 (s.2.1 (u + 130 + i) 7)) (o + 130 + i) 8 (s.2.2.1 (u + 130 + i) 8)) (o + 130 + i) 9 (s.2.2.1 (u + 130 + i) 9)) g2) (p2.1 (o + 130 + i)) 10 10 (.long (s.2.2.1 (u + 130 + i) 10)) = some (cH p2 (uL (uL (uL (uI (uI (uI s5 (o + 130 + i) 5 (s.2.1 (u + 130 + i) 5)) (o + 130 + i) 6 (s.2.1 (u + 130 + i) 6)) (o + 130 + i) 7 (s.2.1 (u + 130 + i) 7)) (o + 130 + i) 8 (s.2.2.1 (u + 130 + i) 8)) (o + 130 + i) 9 (s.2.2.1 (u + 130 + i) 9)) (o + 130 + i) 10 (s.2.2.1 (u + 130 + i) 10)) g2) := c_pL (s := (uL (uL (uI (uI (uI s5 (o + 130 + i) 5 (s.2.1 (u + 130 + i) 5)) (o + 130 + i) 6 (s.2.1 (u + 130 + i) 6)) (o + 130 + i) 7 (s.2.1 (u + 130 + i) 7)) (o + 130 + i) 8 (s.2.2.1 (u + 130 + i) 8)) (o + 130 + i) 9 (s.2.2.1 (u + 130 + i) 9))) (g := g2) (k := 10) (okP_t h5.1 rfl) (by show s5.1 _ = _; rw [S5]; exact w1) rfl
  generalize hs9 : uL (uL (uL (uI (uI (uI s5 (o + 130 + i) 5 (s.2.1 (u + 130 + i) 5)) (o + 130 + i) 6 (s.2.1 (u + 130 + i) 6)) (o + 130 + i) 7 (s.2.1 (u + 130 + i) 7)) (o + 130 + i) 8 (s.2.2.1 (u + 130 + i) 8)) (o + 130 + i) 9 (s.2.2.1 (u + 130 + i) 9)) (o + 130 + i) 10 (s.2.2.1 (u + 130 + i) 10) = s9 at y10
  have S9 : s9.1 = s2.1 := by rw [← hs9]; exact S5
  have R9 : s9.2.2.2 = s5.2.2.2 := by rw [← hs9]; rfl
  have h9 : Kp p2 s9 g2 := Kp_t h5 (S9.trans S5.symm) R9
  have O9 : ∀ d, d ≠ o + 130 + i → s9.2.1 d = s5.2.1 d ∧ s9.2.2.1 d = s5.2.2.1 d := fun d hd => by
    rw [← hs9]
    refine ⟨funext fun k => ?_, funext fun k => ?_⟩ <;> simp only [uI_app, uL_app, uI_L, uL_I, hd, false_and, if_false]
  have eC : s5.2.1 (o + 130 + i) = s2.2.1 (o + 130 + i) ∧ s5.2.2.1 (o + 130 + i) = s2.2.2.1 (o + 130 + i) := ⟨by rw [I5, (O3 _ (by omega)).1], funext fun k => by rw [L5, if_neg (by omega), (O3 _ (by omega)).2]⟩
  refine ⟨p2, s9, g2, ?_, Tr_w ⟨h9, T2.2⟩ (by decide) (by decide), ⟨?_, ?_, ?_, ?_, ?_, ?_, ?_⟩, ⟨fun k hk1 hk2 => ?_, fun k hk1 hk2 => ?_, fun k hk => ?_, ?_, fun m hmm => ?_, fun m hmm => ?_⟩, fun d d1 d2 d3 d4 => ?_⟩
  · have r3 : ∀ (s' : cT), s'.1 = s2.1 → okP p2 s' := fun s' hs' => okP_t T2.1.1 hs'
    have n1 : ¬ u + 130 + i = o + 150 + i := by omega
    have n2 : ¬ o + 130 + i = o + 150 + i := by omega
    unfold f_X11_copy f_X11_copy_b0
    rw [e1, b2_some, ← a130.1, c_gI T1.1.1 (a130.2.1.trans v1) rfl, b1_some, c_gI T1.1.1 (a130.2.1.trans v1) rfl, b1_some, a130.2.2.1, ← q1, e2, b2_some, q1, ← qC, c_gR T2.1.1 w1 rfl w2, b1_some, a130.1, ← b130.1, c_gR T2.1.1 (b130.2.1.trans v1) rfl (b130.2.2.2.2 ▸ v2), b1_some, c_cko T2.1.1 w5, b1_some, e3, b2_some]
    rw [c_gR (r3 s3 S3) (by rw [S3]; exact b130.2.1.trans v1) rfl (by rw [R3, b130.2.2.2.2]; exact v3), b1_some, c_gR (r3 s3 S3) (by rw [S3]; exact w1) rfl (by rw [R3]; exact w3), b1_some, e4, b1_some]
    rw [c_gR (r3 s4 S4) (by rw [S4]; exact b130.2.1.trans v1) rfl (by rw [← hs4, uT_app, if_neg n1, R3, b130.2.2.2.2]; exact v4), b1_some, c_gR (r3 s4 S4) (by rw [S4]; exact w1) rfl (by rw [← hs4, uT_app, if_neg n2, R3]; exact w4), b1_some, e5, b1_some]
    rw [x5, b1_some, y5, b1_some, x6, b1_some, y6, b1_some, x7, b1_some, y7, b1_some, x8, b1_some, y8, b1_some, x9, b1_some, y9, b1_some, x10, b1_some, y10, b1_some]
  · rw [S9]; exact w1
  · rw [R9, R5, if_neg (by omega), R3]; exact w2
  · rw [R9, R5, if_neg (by omega), R3]; exact w3
  · rw [R9, R5, if_neg (by omega), R3]; exact w4
  · rw [S9]; exact w5
  · rw [S9]; exact w6
  · rw [S9]; exact w7
  · rcases (show k = 3 ∨ k = 4 ∨ k = 5 ∨ k = 6 ∨ k = 7 by omega) with rfl | rfl | rfl | rfl | rfl
    · rw [← hs9]; simp only [uI_app, uL_I, true_and, Nat.reduceEqDiff, if_false, eC.1]; exact j3
    · rw [← hs9]; simp only [uI_app, uL_I, true_and, Nat.reduceEqDiff, if_false, eC.1]; exact j4
    · rw [← hs9]; simp only [uI_app, uL_I, true_and, Nat.reduceEqDiff, if_false, if_true]
    · rw [← hs9]; simp only [uI_app, uL_I, true_and, Nat.reduceEqDiff, if_false, if_true]
    · rw [← hs9]; simp only [uI_app, uL_I, true_and, Nat.reduceEqDiff, if_false, if_true]
  · rcases (show k = 8 ∨ k = 9 ∨ k = 10 by omega) with rfl | rfl | rfl
    · rw [← hs9]; simp only [uL_app, true_and, Nat.reduceEqDiff, if_false, if_true]
    · rw [← hs9]; simp only [uL_app, true_and, Nat.reduceEqDiff, if_false, if_true]
    · rw [← hs9]; simp only [uL_app, true_and, Nat.reduceEqDiff, if_false, if_true]
  · rw [(O9 _ (by omega)).1, I5, ← hs3, likS_I s2 _ _ hk, b140.2.2.1]
  · rw [(O9 _ (by omega)).2, L5, if_neg (by omega), ← hs3, likS_6, b140.2.2.2.1]
  · rw [R9, R5, if_pos rfl, if_pos hmm, R3, b150.2.2.2.2]
  · rw [(O9 _ (by omega)).2, L5, if_pos rfl, if_pos hmm, (O3 _ (by omega)).2, b160.2.2.2.1]
  · have x := g2f d d1 d2 d3 d4
    refine ⟨x.1, by rw [S9]; exact x.2.1, by rw [(O9 d d1).1, I5, (O3 d d2).1]; exact x.2.2.1, funext fun k => by rw [(O9 d d1).2, L5, if_neg d4, (O3 d d2).2, x.2.2.2.1], funext fun k => by rw [R9, R5, if_neg d3, R3, x.2.2.2.2]⟩
end MK
