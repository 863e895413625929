/-! a franchisee is terminated -/
set_option maxRecDepth 100000
section WT
variable {s s1 : cT} {o nf no mo : Nat} {t t1 : Nat → Int64}
theorem RB_tm (h : RB s o nf no mo t) (hb : nf ≤ 8 ∧ no ≤ 16) {i : Nat} (hi : i < nf) (h0 : s1.1 = s.1) (hLR : s1.2.2 = s.2.2) (hs : ∀ c, c ≠ o + 130 + i → c ≠ o + 140 + i → c ≠ o + 16 → (∀ k, k < no → c ≠ o + 170 + k) → s1.2.1 c = s.2.1 c) (hfr : frR s1 t1 (o + 130 + i) (o + 140 + i) (58 + 16 * i)) (ho : ∀ k, k < no → s1.2.1 (o + 170 + k) 0 = s.2.1 (o + 170 + k) 0 ∧ t1 (186 + 4 * k + 0) = (s1.2.1 (o + 170 + k) 1).toInt64 ∧ ∀ x, 1 ≤ x → x < 4 → t1 (186 + 4 * k + x) = t (186 + 4 * k + x)) (hc : ∀ c, c < 900 → t1 (250 + c) = (s1.2.1 (o + 16) c).toInt64) (ht : ∀ y, y < 58 + 16 * i ∨ 74 + 16 * i ≤ y ∧ y < 186 ∨ 1150 ≤ y → t1 y = t y) : RB s1 o nf no mo t1 := by
  have hL : s1.2.2.1 = s.2.2.1 := by rw [hLR]
  have hR : s1.2.2.2 = s.2.2.2 := by rw [hLR]
  obtain ⟨⟨a1, a2, a3, a4⟩, hF, hO, hC, hS, hD, hRe, hI⟩ := h
  refine ⟨⟨by rw [ht 0 (by omega)]; exact a1, by rw [hs (o + 10) (by omega) (by omega) (by omega) (fun k hk => by omega)]; exact a2, by rw [ht 2 (by omega)]; exact a3, by rw [ht 3 (by omega)]; exact a4⟩, fun j hj => ?_, fun k hk => ?_, hc, fun k hk => ?_, fun f hf g hg => ?_, fun f hf m hm => ?_, fun f hf m hm => ?_⟩
  · by_cases e : j = i
    · subst e; exact hfr
    · exact frR_cg (hF j hj) ⟨hs _ (by omega) (by omega) (by omega) (fun k hk => by omega), by rw [hL]⟩ ⟨hs _ (by omega) (by omega) (by omega) (fun k hk => by omega), by rw [hL]⟩ (fun x hx => ht _ (by omega))
  · obtain ⟨p1, p2, p3⟩ := ho k hk
    obtain ⟨q1, ⟨e, he, e0, e1, e2⟩, q3⟩ := hO k hk
    refine ⟨p2, ⟨e, he, p1.trans e0, (p3 1 (by decide) (by decide)).trans e1, (p3 2 (by decide) (by decide)).trans e2⟩, ?_⟩
    rw [p3 3 (by decide) (by decide), hL]
    exact q3
  · rw [ht _ (by omega), hL]; exact hS k hk
  · rw [ht _ (by omega), hL]; exact hD f hf g hg
  · rw [ht _ (by omega), hL]; exact hRe f hf m hm
  · obtain ⟨e, e1, e2, e3⟩ := hI f hf m hm
    refine ⟨e, by rw [hR]; exact e1, by rw [h0]; exact e2, fun q hq => ?_⟩
    rw [ht _ (by omega), hL]
    exact e3 q hq
theorem IV_tm {np n n1 : Nat} (h : IV t nf no np mo n) {i : Nat} (hi : i < nf) (hn : n ≤ n1) (hfr : frI t1 (58 + 16 * i) np mo n1) (ho : ∀ k, k < no → btw (t1 (186 + 4 * k + 0)) (-1) (nf - 1) ∧ t1 (186 + 4 * k + 3) = t (186 + 4 * k + 3)) (hc : ∀ c, c < 900 → btw (t1 (250 + c)) (-1) (nf - 1)) (ht : ∀ y, y < 58 + 16 * i ∨ 74 + 16 * i ≤ y ∧ y < 186 ∨ 1150 ≤ y → t1 y = t y) : IV t1 nf no np mo n1 := by
  obtain ⟨⟨a1, a2, a3, a4⟩, hF, hO, hC, hR, hD⟩ := h
  refine ⟨⟨a1, a2, a3, a4⟩, fun j hj => ?_, fun k hk => ?_, hc, fun f hf m hm => ?_, fun f hf g hg hz => ?_⟩
  · by_cases e : j = i
    · subst e; exact hfr
    · exact frI_cg (frI_n (hF j hj) hn) (fun x hx => ht _ (by omega))
  · rw [(ho k hk).2]
    exact ⟨(ho k hk).1, (hO k hk).2⟩
  · rw [ht _ (by omega)]
    refine ⟨(hR f hf m hm).1, fun q hq => ?_⟩
    rw [ht _ (by omega)]
    exact (hR f hf m hm).2 q hq
  · rw [ht _ (by omega)]; exact hD f hf g hg hz
end WT
/-- f is gone -/
def gone (f x : Int32) : Int32 := if x = f then -1 else x
section LC
variable {E : zE} {N : iN} {s : cT} {g : zH}
theorem x_tc (hE : 1000 ≤ E.1) (f : Int32) : Ww (c_X4_terminate_l97 E N E.1 f (0 : Int32) s g) fun z => ∃ s3 : cT, z = ((), (s3, g)) ∧ s3.1 = s.1 ∧ s3.2.2 = s.2.2 ∧ (∀ c, c ≠ N.1 + 16 → s3.2.1 c = s.2.1 c) ∧ ∀ c, c < 900 → s3.2.1 (N.1 + 16) c = gone f (s.2.1 (N.1 + 16) c) := by
  refine w_lp (L := fun m i a => c_X4_terminate_l97 E N m f i a g) (n := 900) (by decide) (Inv := fun j (a : cT) => a.1 = s.1 ∧ a.2.2 = s.2.2 ∧ (∀ c, c ≠ N.1 + 16 → a.2.1 c = s.2.1 c) ∧ (∀ c, c < j → a.2.1 (N.1 + 16) c = gone f (s.2.1 (N.1 + 16) c)) ∧ ∀ c, j ≤ c → a.2.1 (N.1 + 16) c = s.2.1 (N.1 + 16) c) (fun m j a hj ha k => ?_) (fun m a ha => ?_) 900 0 E.1 s rfl (by omega) ⟨rfl, rfl, fun _ _ => rfl, fun c hc => by omega, fun _ _ => rfl⟩
  · show Ww (c_X4_terminate_l97 E N (m + 1) f (Int32.ofNat j) a g) _
    obtain ⟨a1, a2, a3, a4, a5⟩ := ha
    unfold c_X4_terminate_l97 c_X4_terminate_b127
    rw [if_neg (le900 hj), cdI_of hj (by decide), b1_some, i32_s, a5 j (Nat.le_refl _)]
    by_cases h : s.2.1 (N.1 + 16) j = f
    · rw [if_pos h, show (-1 : Int32).toInt8.toInt32 = -1 by decide, csI_of hj (by decide), b1_some]
      refine k _ ⟨a1, a2, fun c hc => (uI_row _ hc _ _).trans (a3 c hc), fun c hc => ?_, fun c hc => ?_⟩
      · by_cases e : c = j
        · subst e
          rw [uI_s]
          unfold gone
          rw [if_pos h]
        · rw [uI_ne _ _ (Or.inr e)]
          exact a4 c (by omega)
      · rw [uI_ne _ _ (Or.inr (by omega))]
        exact a5 c (by omega)
    · rw [if_neg h]
      refine k _ ⟨a1, a2, a3, fun c hc => ?_, fun c hc => a5 c (by omega)⟩
      by_cases e : c = j
      · subst e
        rw [a5 c (Nat.le_refl _)]
        unfold gone
        rw [if_neg h]
      · exact a4 c (by omega)
  · show Ww (c_X4_terminate_l97 E N (m + 1) f (Int32.ofNat 900) a g) _
    obtain ⟨a1, a2, a3, a4, a5⟩ := ha
    unfold c_X4_terminate_l97
    rw [if_pos re900, w_some]
    exact ⟨a, rfl, a1, a2, a3, a4⟩
theorem x_tm (hE : 1000 ≤ E.1) (hN : N.2.2.1 ≤ 16) (f : Int32) : Ww (c_X4_terminate_b37 E N f s g) fun z => ∃ s3 : cT, z = ((), (s3, g)) ∧ s3.1 = s.1 ∧ s3.2.2 = s.2.2 ∧ (∀ c, c ≠ N.1 + 16 → (∀ k, k < N.2.2.1 → c ≠ N.1 + 170 + k) → s3.2.1 c = s.2.1 c) ∧ (∀ k, k < N.2.2.1 → s3.2.1 (N.1 + 170 + k) 1 = gone f (s.2.1 (N.1 + 170 + k) 1) ∧ s3.2.1 (N.1 + 170 + k) 0 = s.2.1 (N.1 + 170 + k) 0) ∧ ∀ c, c < 900 → s3.2.1 (N.1 + 16) c = gone f (s.2.1 (N.1 + 16) c) := by
  unfold c_X4_terminate_b37
  refine w_lp (L := fun m i a => c_X4_terminate_l39 E N m f i a g) (n := N.2.2.1) (by omega) (Inv := fun j (a : cT) => a.1 = s.1 ∧ a.2.2 = s.2.2 ∧ (∀ c, (∀ k, k < N.2.2.1 → c ≠ N.1 + 170 + k) → a.2.1 c = s.2.1 c) ∧ (∀ k, k < N.2.2.1 → a.2.1 (N.1 + 170 + k) 1 = (if k < j then gone f (s.2.1 (N.1 + 170 + k) 1) else s.2.1 (N.1 + 170 + k) 1) ∧ a.2.1 (N.1 + 170 + k) 0 = s.2.1 (N.1 + 170 + k) 0)) (fun m j a hj ha k => ?_) (fun m a ha => ?_) N.2.2.1 0 E.1 s (by omega) (by omega) ⟨rfl, rfl, fun _ _ => rfl, fun k hk => ⟨(if_neg (Nat.not_lt_zero k)).symm, rfl⟩⟩
  · show Ww (c_X4_terminate_l39 E N (m + 1) f (Int32.ofNat j) a g) _
    obtain ⟨a1, a2, a3, a4⟩ := ha
    have e1 := (a4 j hj).1
    rw [if_neg (Nat.lt_irrefl j)] at e1
    unfold c_X4_terminate_l39 c_X4_terminate_b89
    rw [if_neg (le_ofn (by omega) hj), cGet_of hj (by omega), b1_some, i32_s, b1_some, e1]
    by_cases h : s.2.1 (N.1 + 170 + j) 1 = f
    · rw [if_pos h]
      refine k _ ⟨a1, a2, fun c hc => (uI_row _ (hc j hj) _ _).trans (a3 c hc), fun q hq => ?_⟩
      by_cases e : q = j
      · subst e
        rw [uI_s, if_pos (by omega), uI_ne _ _ (Or.inr (by decide))]
        refine ⟨?_, (a4 q hq).2⟩
        unfold gone
        rw [if_pos h]
      · rw [uI_ne _ _ (Or.inl (by omega)), uI_ne _ _ (Or.inl (by omega)), (a4 q hq).1]
        refine ⟨?_, (a4 q hq).2⟩
        by_cases l : q < j
        · rw [if_pos l, if_pos (by omega)]
        · rw [if_neg l, if_neg (by omega)]
    · rw [if_neg h]
      refine k _ ⟨a1, a2, a3, fun q hq => ⟨?_, (a4 q hq).2⟩⟩
      rw [(a4 q hq).1]
      by_cases e : q = j
      · subst e
        rw [if_neg (Nat.lt_irrefl q), if_pos (by omega)]
        unfold gone
        rw [if_neg h]
      · by_cases l : q < j
        · rw [if_pos l, if_pos (by omega)]
        · rw [if_neg l, if_neg (by omega)]
  · show Ww (c_X4_terminate_l39 E N (m + 1) f (Int32.ofNat N.2.2.1) a g) _
    obtain ⟨a1, a2, a3, a4⟩ := ha
    unfold c_X4_terminate_l39
    rw [if_pos (Int32.le_refl _)]
    refine w_mono (x_tc hE f) fun z hz => ?_
    obtain ⟨s3, ez, b1, b2, b3, b4⟩ := hz
    refine ⟨s3, ez, b1.trans a1, b2.trans a2, fun c hc hk => (b3 c hc).trans (a3 c hk), fun q hq => ?_, fun c hc => ?_⟩
    · rw [b3 _ (by omega), (a4 q hq).1, if_pos hq]
      exact ⟨rfl, (a4 q hq).2⟩
    · rw [b4 c hc, a3 (N.1 + 16) (fun k hk => by omega)]
end LC
