/-! constructors over presented heaps: the books, whole -/
set_option maxRecDepth 100000
/-- fresh books under o -/
def bk0 (s : cT) (o : Nat) : Prop := iBk s o 0 0 ∧ lsc s (o + 11) (o + 12) 0 (fun i => o + 130 + i) ∧ lsc s (o + 13) (o + 14) 0 (fun k => o + 170 + k) ∧ (∀ c, c < 900 → s.2.1 (o + 16) c = -1) ∧ (∀ f x, f < 8 → s.2.2.1 (o + 190 + f) x = 0) ∧ ∀ x, s.2.2.1 (o + 20) x = 0
/-- codes outside the block from o on are as they were -/
def frB (o : Nat) (p : cP) (s : cT) (p1 : cP) (s1 : cT) : Prop := ∀ d, d < o + 10 ∨ o + 200 ≤ d → p1.1 d = p.1 d ∧ s1.1 d = s.1 d ∧ s1.2.1 d = s.2.1 d ∧ s1.2.2.1 d = s.2.2.1 d ∧ s1.2.2.2 d = s.2.2.2 d
section MK
variable {p : cP} {s : cT} {g : zH} {o : Nat}
theorem K_X4_init (E : zE) (h : Kp p s g) (hE : 1000 ≤ E.1) (ho : o + 200 ≤ XT) (ho2 : 200 ≤ o) (h10 : s.1 (o + 10) = (1, 4)) (h1 : s.1 1 = (1, 0)) (hz : ∀ d, o + 11 ≤ d → d < o + 200 → (s.1 d).1 = 0) (hr : rm g 30 3000) : ∃ p1 s1 g1, f_X4_init E (p.1 (o + 10)) (p.1 1) (cH p s g) = some ((), cH p1 s1 g1) ∧ Tr p g p1 s1 g1 30 3000 ∧ bk0 s1 o ∧ s1.2.1 (o + 10) 5 = s.2.1 (o + 10) 5 ∧ p1.1 (o + 10) = p.1 (o + 10) ∧ frB o p s p1 s1 ∧ ∀ d, (o + 21 ≤ d ∧ d < o + 190 ∨ o + 198 ≤ d ∧ d < o + 200) → (s1.1 d).1 = 0 := by
  obtain ⟨p1, s1, g1, q, w1, T1, b1, b2, ⟨c1, c2, c3, c4, c5⟩, l1, l2, c6, z1, fr1⟩ := K_X4_a E h ho ho2 h10 h1 hz (rm_le hr (by decide) (by decide))
  obtain ⟨p2, s2, g2, e2, T2, gr, mn, fr2, fr2R⟩ := K_X5_init E T1.1 hE ho c6 z1 (Tr_rm T1 hr (by decide) (by decide))
  have T2 := Tr_tr T1 T2
  have f2 : ∀ d, d < o + 15 ∨ o + 19 ≤ d → p2.1 d = p1.1 d ∧ s2.1 d = s1.1 d ∧ s2.2.1 d = s1.2.1 d ∧ s2.2.2.1 d = s1.2.2.1 d ∧ s2.2.2.2 d = s1.2.2.2 d := fun d hd => by
    have k := fr2 d (by omega)
    exact ⟨k.1, k.2.1, k.2.2.1, k.2.2.2, fr2R d hd⟩
  have a10 := f2 (o + 10) (Or.inl (by omega))
  obtain ⟨e3, T3⟩ := Tr_R T2 (o + 10) 4 2 (o + 15) (a := p.1 (o + 10)) (b := q) (a10.2.1.trans c1) rfl (by omega) (a10.1.trans b2) ((fr2 (o + 15) (by omega)).1.trans b1) (Or.inl (by rw [gr.1]; exact Nat.succ_ne_zero _)) (fun q6 => absurd q6 (by rw [gr.1]; decide))
  have z2 : ∀ d, o + 19 ≤ d → d < o + 200 → (s2.1 d).1 = 0 := fun d d1 d2 => by rw [(f2 d (Or.inr d1)).2.1]; exact z1 d (by omega) d2
  obtain ⟨p4, s4, g4, e4, T4, m1, m2, m3, fr4⟩ := Tr_nM T3 hr (c := o + 19) (c1 := o + 190) (by decide) (by decide) (by omega) (by omega) (z2 _ (by omega) (by omega)) (fun i hi => z2 _ (by omega) (by omega)) (Or.inl (by omega))
  have a4 := fr4 (o + 10) (by omega) (Or.inl (by omega))
  obtain ⟨e5, T5⟩ := Tr_R T4 (o + 10) 4 3 (o + 19) (a := p.1 (o + 10)) (b := g2.2.1) (a4.2.1.trans (a10.2.1.trans c1)) rfl (by omega) (a4.1.trans (a10.1.trans b2)) m1 (Or.inl (by rw [m2]; exact Nat.succ_ne_zero _)) (fun q6 => absurd q6 (by rw [m2]; decide))
  have a20 := fr4 (o + 20) (by omega) (Or.inl (by omega))
  obtain ⟨e6, T6⟩ := Tr_arr (x := (3 : Int32)) (d := .inr (.inl fun _ => 0)) T5 hr (o + 20) 1 3 (by decide) (by decide) (by decide) rfl rfl (by rw [uR_S, a20.2.1]; exact z2 _ (by omega) (by omega)) (by omega)
  obtain ⟨e7, T7⟩ := Tr_R T6 (o + 10) 4 4 (o + 20) (a := p.1 (o + 10)) (b := g4.2.1) (by rw [sNw_1, if_neg (by omega), uR_S]; exact a4.2.1.trans (a10.2.1.trans c1)) rfl (by omega) (by rw [pA_1, if_neg (by omega)]; exact a4.1.trans (a10.1.trans b2)) (by rw [pA_1, if_pos rfl]) (Or.inl (by rw [sNw_1, if_pos rfl]; exact Nat.succ_ne_zero _)) (fun q6 => absurd q6 (by rw [sNw_1, if_pos rfl]; decide))
  generalize hp7 : pA p4 (o + 20) g4.2.1 = p7 at e6 e7 T7
  generalize hs7 : uR (sNw (uR s4 (o + 10) 3 (some (o + 19))) (o + 20) (1 + 2, 3)) (o + 10) 4 (some (o + 20)) = s7 at e7 T7
  have k7 : ∀ d, d ≠ o + 20 → d ≠ o + 19 → d < o + 190 ∨ o + 198 ≤ d → p7.1 d = p2.1 d ∧ s7.1 d = s2.1 d ∧ s7.2.1 d = s2.2.1 d ∧ s7.2.2.1 d = s2.2.2.1 d := fun d d1 d2 d3 => by
    have k := fr4 d d2 d3
    have u := sNw_o (uR s4 (o + 10) 3 (some (o + 19))) d1 (1 + 2, 3)
    rw [← hp7, ← hs7]
    exact ⟨(cu_ne p4.1 _ d1).trans k.1, u.1.trans k.2.1, u.2.1.trans k.2.2.1, u.2.2.1.trans k.2.2.2.1⟩
  have r7 : ∀ d, d ≠ o + 10 → d ≠ o + 20 → d ≠ o + 19 → d < o + 190 ∨ o + 198 ≤ d → s7.2.2.2 d = s2.2.2.2 d := fun d d0 d1 d2 d3 => funext fun k => by
    rw [← hs7, uR_app, if_neg (by omega), sNw_R, if_neg d1, uR_app, if_neg (by omega), (fr4 d d2 d3).2.2.2.2, uR_app, if_neg (by omega)]
  have r10 : ∀ k, s7.2.2.2 (o + 10) k = if k = 4 then some (o + 20) else if k = 3 then some (o + 19) else if k = 2 then some (o + 15) else s1.2.2.2 (o + 10) k := fun k => by
    rw [← hs7, uR_app, sNw_R, uR_app, a4.2.2.2.2, uR_app, a10.2.2.2.2]
    by_cases q4 : k = 4
    · rw [if_pos ⟨rfl, q4⟩, if_pos q4]
    · rw [if_neg (by omega), if_neg (by omega), if_neg q4]
      by_cases q3 : k = 3
      · rw [if_pos ⟨rfl, q3⟩, if_pos q3]
      · rw [if_neg (by omega), if_neg q3]
        by_cases q2 : k = 2
        · rw [if_pos ⟨rfl, q2⟩, if_pos q2]
        · rw [if_neg (by omega), if_neg q2]
  have in7 : ∀ d, d ≠ o + 20 → o + 19 = d ∨ o + 190 ≤ d ∧ d < o + 198 → s7.1 d = s4.1 d ∧ s7.2.2.1 d = s4.2.2.1 d ∧ s7.2.2.2 d = s4.2.2.2 d := fun d d1 d2 => by
    have u := sNw_o (uR s4 (o + 10) 3 (some (o + 19))) d1 (1 + 2, 3)
    rw [← hs7]
    refine ⟨u.1, u.2.2.1, funext fun k => ?_⟩
    rw [uR_app, if_neg (by omega), u.2.2.2, uR_app, if_neg (by omega)]
  have a15 := fr2 (o + 15) (by omega)
  have l1' : lsc s7 (o + 11) (o + 12) 0 (fun i => o + 130 + i) := by
    obtain ⟨⟨x1, x2, x3, x4, cap, x5, x6, x7⟩, mm, y1, y2, y3⟩ := l1
    have k11 := k7 (o + 11) (by omega) (by omega) (by omega)
    have k12 := k7 (o + 12) (by omega) (by omega) (by omega)
    have g11 := f2 (o + 11) (by omega)
    have g12 := f2 (o + 12) (by omega)
    exact ⟨⟨k11.2.1.trans (g11.2.1.trans x1), by rw [r7 _ (by omega) (by omega) (by omega) (by omega), g11.2.2.2.2]; exact x2, by rw [k11.2.2.1, g11.2.2.1]; exact x3, x4, cap, k12.2.1.trans (g12.2.1.trans x5), x6, fun i hi => absurd hi (Nat.not_lt_zero i)⟩, mm, k12.2.1.trans (g12.2.1.trans y1), y2, y3⟩
  have l2' : lsc s7 (o + 13) (o + 14) 0 (fun k => o + 170 + k) := by
    obtain ⟨⟨x1, x2, x3, x4, cap, x5, x6, x7⟩, mm, y1, y2, y3⟩ := l2
    have k11 := k7 (o + 13) (by omega) (by omega) (by omega)
    have k12 := k7 (o + 14) (by omega) (by omega) (by omega)
    have g11 := f2 (o + 13) (by omega)
    have g12 := f2 (o + 14) (by omega)
    exact ⟨⟨k11.2.1.trans (g11.2.1.trans x1), by rw [r7 _ (by omega) (by omega) (by omega) (by omega), g11.2.2.2.2]; exact x2, by rw [k11.2.2.1, g11.2.2.1]; exact x3, x4, cap, k12.2.1.trans (g12.2.1.trans x5), x6, fun i hi => absurd hi (Nat.not_lt_zero i)⟩, mm, k12.2.1.trans (g12.2.1.trans y1), y2, y3⟩
  have k10 := k7 (o + 10) (by omega) (by omega) (by omega)
  refine ⟨p7, s7, _, w1 (fun _ _ => none) _ ?_, Tr_w T7 (by decide) (by decide), ⟨⟨k10.2.1.trans (a10.2.1.trans c1), ?_, ?_, ?_, ?_, ?_, ?_, by decide, by decide, l1'.1, l2'.1, ⟨?_, ?_, ?_, ?_, ?_, ?_, ?_⟩, fun i hi => absurd hi (Nat.not_lt_zero i), fun i hi => absurd hi (Nat.not_lt_zero i), ?_, fun f hf => ⟨?_, ?_⟩, ?_⟩, l1', l2', fun c hc => ?_, fun f x hf => ?_, fun x => ?_⟩, ?_, k10.1.trans (a10.1.trans b2), fun d hd => ?_, fun d hd => ?_⟩
  · rw [← b1, e2, b2_some, b1, e3, b1_some, e4, b2_some, e5, b1_some, e6, b2_some, e7, b1_some]
  · rw [r10]; exact c2
  · rw [r10]; exact c3
  · rw [r10]; rfl
  · rw [r10]; rfl
  · rw [r10]; rfl
  · rw [r10]; exact c4
  · rw [(k7 _ (by omega) (by omega) (by omega)).2.1]; exact gr.1
  · rw [r7 _ (by omega) (by omega) (by omega) (by omega)]; exact gr.2.1
  · rw [r7 _ (by omega) (by omega) (by omega) (by omega)]; exact gr.2.2.1
  · rw [r7 _ (by omega) (by omega) (by omega) (by omega)]; exact gr.2.2.2.1
  · rw [(k7 _ (by omega) (by omega) (by omega)).2.1]; exact gr.2.2.2.2.1
  · rw [(k7 _ (by omega) (by omega) (by omega)).2.1]; exact gr.2.2.2.2.2.1
  · rw [(k7 _ (by omega) (by omega) (by omega)).2.1]; exact gr.2.2.2.2.2.2
  · rw [(in7 _ (by omega) (Or.inl rfl)).1]; exact m2
  · rw [(in7 _ (by omega) (Or.inl rfl)).2.2]; exact (m3 f hf).2.1
  · rw [(in7 _ (by omega) (Or.inr ⟨by omega, by omega⟩)).1]; exact (m3 f hf).1
  · rw [← hs7, uR_S, sNw_1, if_pos rfl]
  · rw [(k7 _ (by omega) (by omega) (by omega)).2.2.1]; exact mn c hc
  · rw [(in7 _ (by omega) (Or.inr ⟨by omega, by omega⟩)).2.1]; exact (m3 f hf).2.2 x
  · rw [← hs7, uR_L, sNw_L, if_pos rfl]
  · rw [k10.2.2.1, a10.2.2.1]; exact c5
  · have k := k7 d (by omega) (by omega) (by omega)
    have k2 := f2 d (by omega)
    have k3 := fr1 d hd
    exact ⟨k.1.trans (k2.1.trans k3.1), k.2.1.trans (k2.2.1.trans k3.2.1), k.2.2.1.trans (k2.2.2.1.trans k3.2.2.1), k.2.2.2.trans (k2.2.2.2.1.trans k3.2.2.2.1), (r7 d (by omega) (by omega) (by omega) (by omega)).trans (k2.2.2.2.2.trans k3.2.2.2.2)⟩
  · rw [(k7 d (by omega) (by omega) (by omega)).2.1]
    exact z2 d (by omega) (by omega)
end MK
