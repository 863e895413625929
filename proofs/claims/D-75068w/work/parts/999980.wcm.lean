/-! the world behind closing a month; a call and the twin's answer -/
set_option maxRecDepth 100000
/-- only shaped codes are presented -/
def pz (p : cP) (s : cT) : cP := (p.1, fun b => match p.2 b with
  | some d => if (s.1 d).1 = 0 then none else some d
  | none => none)
theorem pz_some {p : cP} {s : cT} {b d : Nat} (h : (pz p s).2 b = some d) : p.2 b = some d ∧ (s.1 d).1 ≠ 0 := by
  have h : (match p.2 b with
    | some d => if (s.1 d).1 = 0 then none else some d
    | none => none) = some d := h
  cases hb : p.2 b with
  | none => rw [hb] at h; cases h
  | some e =>
    rw [hb] at h
    have h : (if (s.1 e).1 = 0 then none else some e) = some d := h
    by_cases w : (s.1 e).1 = 0
    · rw [if_pos w] at h; cases h
    · rw [if_neg w] at h; cases h; exact ⟨rfl, w⟩
theorem pz_none {p : cP} {s : cT} {b : Nat} (h : p.2 b = none) : (pz p s).2 b = none := by
  show (match p.2 b with
    | some d => if (s.1 d).1 = 0 then none else some d
    | none => none) = none
  rw [h]
theorem pz_of {p : cP} {s : cT} {b d : Nat} (h : p.2 b = some d) (hd : (s.1 d).1 ≠ 0) : (pz p s).2 b = some d := by
  show (match p.2 b with
    | some d => if (s.1 d).1 = 0 then none else some d
    | none => none) = some d
  rw [h]
  exact if_neg hd
theorem pz_cH (p : cP) (s : cT) (g : zH) : cH (pz p s) s g = cH p s g := by
  refine Prod.ext (funext fun b => ?_) rfl
  show (match (pz p s).2 b with
    | some c => if (s.1 c).1 = 0 then g.1 b else some (cC p.1 s c)
    | none => g.1 b) = (match p.2 b with
    | some c => if (s.1 c).1 = 0 then g.1 b else some (cC p.1 s c)
    | none => g.1 b)
  cases hb : p.2 b with
  | none => rw [pz_none hb]
  | some d =>
    by_cases w : (s.1 d).1 = 0
    · have e : (pz p s).2 b = none := by
        cases hz : (pz p s).2 b with
        | none => rfl
        | some d1 =>
          obtain ⟨e1, e2⟩ := pz_some hz
          rw [hb] at e1
          cases e1
          exact absurd w e2
      rw [e]
      show g.1 b = if (s.1 d).1 = 0 then g.1 b else some (cC p.1 s d)
      rw [if_pos w]
    · rw [pz_of hb w]
section WO
variable {X : cT → (Nat → Option zC) → twS → Prop} {E : zE} {q x a c n : Nat} {H : zH} {t : twS} {p : cP} {s : cT} {N : iN} {mo nb : Nat}
theorem Kp_dyn (h : Kp p s H) {e : Nat} (he : XT ≤ e) (hs : (s.1 e).1 ≠ 0) : e < XT + H.2.1 := by
  have k := Kp_lt h hs
  have := h.2.2.1 (e - XT)
  rw [show XT + (e - XT) = e by omega] at this
  omega
theorem Wo_cm (hX : stb X) (h : Wo X q x a (c + 1) n H t p s N mo nb) {s1 : cT} {t1 : twS} {g1 : zH} {p2 : Nat → Option Nat} (hP : PwC N mo n s t H a s1 t1 g1) (hH : iH (p.1, p2) s1 g1 N) (hq : ∀ b, b < H.2.1 → p2 b = p.2 b) : Wo X q x a c (n + 1) (cH (p.1, p2) s1 g1) t1 (pz (p.1, p2) s1) s1 N (mo + 1) nb := by
  obtain ⟨⟨w1, w2, w3, w4⟩, ⟨w5, w6, w7, w8, w9⟩, ⟨w10, w11, w12, w13, w14⟩, ⟨w15, w16, w17, w18, w19⟩, ⟨w20, w21⟩, w22, w23⟩ := h
  obtain ⟨p1, p3, ⟨s0, s00, sR, sN, sO⟩, ⟨t0, tS, tA, tV⟩, g0, g2, g3, g4, g5⟩ := hP
  have h2 := w3.2.2.2.2.2
  obtain ⟨k1, k2, k3, k4, k5, k6, k7⟩ := w1
  have XTv : XT = 1000000 := rfl
  have h8 := w6.1.2.1
  have cst1 : ∀ y, y = 1 ∨ 4 ≤ y ∧ y ≤ 10 ∨ 14 ≤ y ∧ y < 58 ∨ (∃ i, i < 8 ∧ y = 58 + 16 * i) → t1.1 y = t.1 y := fun y hy => t0 y (Or.inr (by
    rcases hy with hy | hy | hy | hy
    · exact Or.inl ⟨by omega, by omega⟩
    · exact Or.inl ⟨by omega, by omega⟩
    · exact Or.inr (Or.inl ⟨by omega, by omega⟩)
    · exact Or.inr (Or.inr hy)))
  have cst2 : ∀ y, y = 1 ∨ 4 ≤ y ∧ y < 11 ∨ 14 ≤ y ∧ y < 58 → t1.1 y = t.1 y := fun y hy => cst1 y (by omega)
  have raw : ∀ b, b < H.2.1 → p.2 b = none → b ≠ a → ¬ (q ≤ b ∧ b < q + 10) → (pz (p.1, p2) s1).2 b = none ∧ (cH (p.1, p2) s1 g1).1 b = H.1 b := fun b hb hn ha _ => by
    have e : (p.1, p2).2 b = none := (hq b hb).trans hn
    exact ⟨pz_none e, by rw [cH_raw e]; exact g2 b hb ha⟩
  have lowS : ∀ d, d < XT → s1.1 d = s.1 d := fun d hd => s0 d (by omega)
  have Kn : Kp (pz (p.1, p2) s1) s1 (cH (p.1, p2) s1 g1) := by
    refine ⟨⟨fun d hd => pz_of (hH.1.1 d hd) hd, fun b d hb => hH.1.2 b d (pz_some hb).1⟩, fun b hb => pz_none (hH.2.1 b hb), k3, fun b d hb => (pz_some hb).2, fun d k e hd hk => ?_, fun r d k d1 k1' hr hd hd1 hk hk1 => ?_, fun d hd => ⟨?_, fun k => ?_⟩⟩
    · by_cases w : N.1 + 150 ≤ d ∧ d < N.1 + 150 + N.2.1 ∧ k = mo
      · obtain ⟨e9, x1, x2⟩ := sN (d - (N.1 + 150)) (by omega)
        rw [show N.1 + 150 + (d - (N.1 + 150)) = d by omega, ← w.2.2, hk] at x1
        cases x1
        exact Or.inr x2
      · rw [sR d k w] at hk
        have hd0 : (s.1 d).1 ≠ 0 := by
          by_cases l : d < XT
          · rw [← lowS d l]; exact hd
          · rw [(k7 d (by omega)).2 k] at hk; cases hk
        refine (k5 d k e hd0 hk).elim (fun z => ?_) Or.inr
        by_cases l : e < XT
        · exact Or.inl (by rw [lowS e l]; exact z)
        · exact Or.inr (by omega)
    · have key : ∀ d k, (s1.1 d).1 ≠ 0 → s1.2.2.2 d k = some r → (s.1 d).1 ≠ 0 ∧ s.2.2.2 d k = some r ∧ (s.1 r).1 = 6 := fun d k hd hk => by
        by_cases w : N.1 + 150 ≤ d ∧ d < N.1 + 150 + N.2.1 ∧ k = mo
        · obtain ⟨e9, x1, x2⟩ := sN (d - (N.1 + 150)) (by omega)
          rw [show N.1 + 150 + (d - (N.1 + 150)) = d by omega, ← w.2.2, hk] at x1
          cases x1
          exfalso
          by_cases l : r < XT + H.2.1
          · rw [s0 r l] at hr
            have := (k7 r x2).1
            omega
          · rcases s00 r (by omega) with z | z
            · rw [z] at hr
              have := (k7 r x2).1
              omega
            · rw [z] at hr; exact absurd hr (show ¬ (3 : Nat) = 6 by decide)
        · rw [sR d k w] at hk
          have hd0 : (s.1 d).1 ≠ 0 := by
            by_cases l : d < XT
            · rw [← lowS d l]; exact hd
            · rw [(k7 d (by omega)).2 k] at hk; cases hk
          refine ⟨hd0, hk, ?_⟩
          by_cases l : r < XT
          · rw [← lowS r l]; exact hr
          · exfalso
            by_cases l2 : r < XT + H.2.1
            · rw [s0 r l2] at hr
              have := (k7 r (by omega)).1
              omega
            · rcases s00 r (by omega) with z | z
              · rw [z] at hr
                have := (k7 r (by omega)).1
                omega
              · rw [z] at hr; exact absurd hr (show ¬ (3 : Nat) = 6 by decide)
      obtain ⟨x1, x2, x3⟩ := key d k hd hk
      obtain ⟨y1, y2, y3⟩ := key d1 k1' hd1 hk1
      exact k6 r d k d1 k1' x3 x1 y1 x2 y2
    · by_cases l : d < XT + H.2.1
      · rw [s0 d l]; exact (k7 d hd).1
      · rcases s00 d (by omega) with z | z
        · rw [z]; exact (k7 d hd).1
        · rw [z]; exact Or.inr rfl
    · rw [sR d k (by omega)]; exact (k7 d hd).2 k
  refine ⟨⟨Kn, by rw [pz_cH, cH_idem], iH_cg (iH_g hH (g1 := cH (p.1, p2) s1 g1) (Nat.le_refl _)) Kn.1 Kn.2.1 (fun _ _ => rfl) (fun _ _ => rfl) (fun _ _ _ => rfl), w4⟩, ⟨p1, p3, RR_cg w7 w6.1.2.2.2 (fun d hd _ => sO d (Or.inl (by omega))) cst2, IR_cg w8 w6.1.2.2.2 cst2, fun i m e hi hm he => ?_⟩, ⟨w10, by omega, fun d d1 d2 => by rw [lowS d d2]; exact w12 d d1 d2, by omega, ?_⟩, ⟨?_, ⟨g3.1, ?_⟩, fun b b1 b2 => ?_, by show q + 10 ≤ g1.2.1; omega, w19⟩, ⟨fun k k1 k2 => by rw [lowS _ (by omega)]; exact w20 k k1 k2, by rw [lowS _ (by omega)]; exact w21⟩, fun k hk => ?_, ?_⟩
  · by_cases w : m = mo
    · obtain ⟨e9, x1, x2⟩ := sN i hi
      rw [w, x1] at he
      cases he
      exact x2
    · rw [sR _ _ (by omega)] at he
      exact w9 i m e hi (by omega) he
  · have := w14.1; have := w14.2
    exact ⟨show 400 * c ≤ g1.2.2.1 by omega, show 4400 * c ≤ g1.2.2.2 by omega⟩
  · exact pz_none ((hq a w16.1).trans w15)
  · obtain ⟨f, hf⟩ := g3.2
    exact ⟨f, by rw [cH_raw ((hq a w16.1).trans w15)]; exact hf⟩
  · exact pz_none ((hq b (by omega)).trans (w17 b b1 b2))
  · refine Sn_keep hk (w22 k hk) ⟨rfl, rfl⟩ (sR _ _ (by omega)) (fun u u1 u2 u3 => ⟨u3, fun d d1 d2 => ?_⟩) (fun e he hs => ?_) (Nat.le_refl _) (Nat.le_succ n) (congrFun (tA 2 (Or.inl rfl)) k) (fun y y1 y2 => t0 y (Or.inl (by omega))) cst1
    · have k := sO d (by omega)
      exact ⟨lowS d (by omega), k.1, k.2, funext fun j => sR d j (by omega)⟩
    · have l := Kp_dyn ⟨k1, k2, k3, k4, k5, k6, k7⟩ he (by rw [hs]; exact Nat.succ_ne_zero _)
      exact ⟨(s0 e l).trans hs, (sO e (Or.inr ⟨by omega, l⟩)).2⟩
  · refine hX s s1 _ _ t t1 (fun d d1 _ d3 => ?_) (rvw_le g0 raw) tS (fun i hi => tA i (Or.inr hi)) (fun i hi => cst1 _ (Or.inr (Or.inr (Or.inr ⟨i, hi, rfl⟩)))) w23
    have k := sO d (Or.inl (by omega))
    exact ⟨lowS d (by omega), k.1, k.2, fun _ => funext fun j => sR d j (by omega)⟩
end WO
